set_option maxRecDepth 100000
/-! ===== the component's methods; calls ===== -/
abbrev mX0_agree : MD := (yX0_agree, cX0_agree, 5, (Option.some .int), 14, noEH)
abbrev mX0_agrees : MD := (yX0_agrees, cX0_agrees, 5, (Option.some .boolean), 2, noEH)
abbrev mX0_alike : MD := (yX0_alike, cX0_alike, 4, (Option.some .int), 13, noEH)
abbrev mX0_all : MD := (yX0_all, cX0_all, 5, (Option.some .int), 12, noEH)
abbrev mX0_among : MD := (yX0_among, cX0_among, 6, (Option.some .int), 13, noEH)
abbrev mX0_areBeside : MD := (yX0_areBeside, cX0_areBeside, 3, (Option.some .boolean), 2, noEH)
abbrev mX0_at : MD := (yX0_at, cX0_at, 3, (Option.some .int), 4, noEH)
abbrev mX0_away : MD := (yX0_away, cX0_away, 7, (Option.some .int), 12, noEH)
abbrev mX0_back : MD := (yX0_back, cX0_back, 2, (Option.some .int), 2, noEH)
abbrev mX0_bell : MD := (yX0_bell, cX0_bell, 4, (Option.some .int), 13, noEH)
abbrev mX0_both : MD := (yX0_both, cX0_both, 7, (Option.some .int), 13, noEH)
abbrev mX0_call : MD := (yX0_call, cX0_call, 3, (Option.some .int), 4, noEH)
abbrev mX0_clocks : MD := (yX0_clocks, cX0_clocks, 1, (Option.some .int), 2, noEH)
abbrev mX0_common : MD := (yX0_common, cX0_common, 6, (Option.some .int), 13, noEH)
abbrev mX0_count : MD := (yX0_count, cX0_count, 7, (Option.some .int), 3, noEH)
abbrev mX0_courses : MD := (yX0_courses, cX0_courses, 1, (Option.some .int), 13, noEH)
abbrev mX0_day : MD := (yX0_day, cX0_day, 4, (Option.some .int), 13, noEH)
abbrev mX0_days : MD := (yX0_days, cX0_days, 8, (Option.some .int), 13, noEH)
abbrev mX0_drawn : MD := (yX0_drawn, cX0_drawn, 3, (Option.some (.object "UnseenClock$Course")), 12, noEH)
abbrev mX0_end : MD := (yX0_end, cX0_end, 2, (Option.some .int), 2, noEH)
abbrev mX0_eyes : MD := (yX0_eyes, cX0_eyes, 3, (Option.some .int), 13, noEH)
abbrev mX0_fault : MD := (yX0_fault, cX0_fault, 2, (Option.some .int), 1, noEH)
abbrev mX0_feed : MD := (yX0_feed, cX0_feed, 8, (Option.some .int), 1, noEH)
abbrev mX0_gathers : MD := (yX0_gathers, cX0_gathers, 2, (Option.some .boolean), 12, noEH)
abbrev mX0_hours : MD := (yX0_hours, cX0_hours, 5, (Option.some .int), 13, noEH)
abbrev mX0_hush : MD := (yX0_hush, cX0_hush, 7, (Option.some .int), 12, noEH)
abbrev mX0_image : MD := (yX0_image, cX0_image, 2, (Option.some .int), 3, noEH)
abbrev mX0_in : MD := (yX0_in, cX0_in, 6, (Option.some .boolean), 1, noEH)
abbrev mX0_init : MD := (yX0_init, cX0_init, 1, (Option.none : Option FieldType), 6, noEH)
abbrev mX0_isAlike : MD := (yX0_isAlike, cX0_isAlike, 4, (Option.some .boolean), 3, noEH)
abbrev mX0_isAsked : MD := (yX0_isAsked, cX0_isAsked, 4, (Option.some .boolean), 4, noEH)
abbrev mX0_isClock : MD := (yX0_isClock, cX0_isClock, 3, (Option.some .boolean), 3, noEH)
abbrev mX0_isDay : MD := (yX0_isDay, cX0_isDay, 4, (Option.some .boolean), 4, noEH)
abbrev mX0_isHour : MD := (yX0_isHour, cX0_isHour, 2, (Option.some .boolean), 2, noEH)
abbrev mX0_isLearnt : MD := (yX0_isLearnt, cX0_isLearnt, 6, (Option.some .boolean), 5, noEH)
abbrev mX0_isMany : MD := (yX0_isMany, cX0_isMany, 3, (Option.some .boolean), 3, noEH)
abbrev mX0_isMinute : MD := (yX0_isMinute, cX0_isMinute, 2, (Option.some .boolean), 2, noEH)
abbrev mX0_isMoment : MD := (yX0_isMoment, cX0_isMoment, 3, (Option.some .boolean), 2, noEH)
abbrev mX0_isOn : MD := (yX0_isOn, cX0_isOn, 2, (Option.some .boolean), 1, noEH)
abbrev mX0_isPerson : MD := (yX0_isPerson, cX0_isPerson, 2, (Option.some .boolean), 3, noEH)
abbrev mX0_isSlot : MD := (yX0_isSlot, cX0_isSlot, 1, (Option.some .boolean), 2, noEH)
abbrev mX0_isStep : MD := (yX0_isStep, cX0_isStep, 5, (Option.some .boolean), 4, noEH)
abbrev mX0_keep : MD := (yX0_keep, cX0_keep, 4, (Option.some .int), 14, noEH)
abbrev mX0_kept : MD := (yX0_kept, cX0_kept, 4, (Option.some .int), 13, noEH)
abbrev mX0_keptBy : MD := (yX0_keptBy, cX0_keptBy, 3, (Option.some (.object "UnseenClock$Course")), 12, noEH)
abbrev mX0_knows : MD := (yX0_knows, cX0_knows, 6, (Option.some .int), 13, noEH)
abbrev mX0_last : MD := (yX0_last, cX0_last, 4, (Option.some .int), 14, noEH)
abbrev mX0_learns : MD := (yX0_learns, cX0_learns, 5, (Option.some .int), 13, noEH)
abbrev mX0_leastKept : MD := (yX0_leastKept, cX0_leastKept, 5, (Option.some .int), 13, noEH)
abbrev mX0_lie : MD := (yX0_lie, cX0_lie, 5, (Option.some .int), 13, noEH)
abbrev mX0_looks : MD := (yX0_looks, cX0_looks, 5, (Option.some .int), 13, noEH)
abbrev mX0_manyShow : MD := (yX0_manyShow, cX0_manyShow, 5, (Option.some .int), 3, noEH)
abbrev mX0_meets : MD := (yX0_meets, cX0_meets, 5, (Option.none : Option FieldType), 5, noEH)
abbrev mX0_meets_2 : MD := (yX0_meets_2, cX0_meets_2, 5, (Option.some .int), 4, noEH)
abbrev mX0_mends : MD := (yX0_mends, cX0_mends, 4, (Option.some .int), 4, noEH)
abbrev mX0_needs : MD := (yX0_needs, cX0_needs, 8, (Option.some .int), 14, noEH)
abbrev mX0_open : MD := (yX0_open, cX0_open, 1, (Option.some .int), 13, noEH)
abbrev mX0_opens : MD := (yX0_opens, cX0_opens, 2, (Option.some .int), 13, noEH)
abbrev mX0_pace : MD := (yX0_pace, cX0_pace, 7, (Option.some .int), 13, noEH)
abbrev mX0_paste : MD := (yX0_paste, cX0_paste, 6, (Option.some .int), 3, noEH)
abbrev mX0_people : MD := (yX0_people, cX0_people, 1, (Option.some .int), 2, noEH)
abbrev mX0_plain : MD := (yX0_plain, cX0_plain, 1, (Option.some (.object "UnseenClock$Course")), 12, noEH)
abbrev mX0_plainSeen : MD := (yX0_plainSeen, cX0_plainSeen, 1, (Option.some (.object "UnseenClock$Seen")), 4, noEH)
abbrev mX0_rings : MD := (yX0_rings, cX0_rings, 5, (Option.some .boolean), 4, noEH)
abbrev mX0_row : MD := (yX0_row, cX0_row, 4, (Option.some .int), 3, noEH)
abbrev mX0_sees : MD := (yX0_sees, cX0_sees, 4, (Option.some .int), 8, noEH)
abbrev mX0_shifts : MD := (yX0_shifts, cX0_shifts, 6, (Option.some .int), 14, noEH)
abbrev mX0_shown : MD := (yX0_shown, cX0_shown, 5, (Option.some .int), 13, noEH)
abbrev mX0_shows : MD := (yX0_shows, cX0_shows, 3, (Option.some .int), 13, noEH)
abbrev mX0_showsWrong : MD := (yX0_showsWrong, cX0_showsWrong, 8, (Option.some .int), 5, noEH)
abbrev mX0_sights : MD := (yX0_sights, cX0_sights, 6, (Option.some .int), 13, noEH)
abbrev mX0_spots : MD := (yX0_spots, cX0_spots, 5, (Option.some .int), 7, noEH)
abbrev mX0_still : MD := (yX0_still, cX0_still, 9, (Option.some .int), 13, noEH)
abbrev mX0_sure : MD := (yX0_sure, cX0_sure, 5, (Option.some .int), 14, noEH)
abbrev mX0_sureBy : MD := (yX0_sureBy, cX0_sureBy, 8, (Option.some .int), 4, noEH)
abbrev mX0_value : MD := (yX0_value, cX0_value, 6, (Option.some .int), 13, noEH)
abbrev mX0_when : MD := (yX0_when, cX0_when, 4, (Option.some .int), 13, noEH)
abbrev mX0_whyNot : MD := (yX0_whyNot, cX0_whyNot, 4, (Option.some .int), 13, noEH)
abbrev mX0_without : MD := (yX0_without, cX0_without, 4, (Option.some .int), 12, noEH)
abbrev mX0_write : MD := (yX0_write, cX0_write, 5, (Option.some .int), 4, noEH)
abbrev mX10_init : MD := (yX10_init, cX10_init, 2, (Option.none : Option FieldType), 3, noEH)
abbrev mX10_now : MD := (yX10_now, cX10_now, 4, (Option.some .int), 1, noEH)
abbrev mX11_init : MD := (yX11_init, cX11_init, 4, (Option.none : Option FieldType), 3, noEH)
abbrev mX11_now : MD := (yX11_now, cX11_now, 4, (Option.some .int), 1, noEH)
abbrev mX12_init : MD := (yX12_init, cX12_init, 4, (Option.none : Option FieldType), 3, noEH)
abbrev mX12_now : MD := (yX12_now, cX12_now, 4, (Option.some .int), 2, noEH)
abbrev mX13_by : MD := (yX13_by, cX13_by, 2, (Option.some .int), 1, noEH)
abbrev mX13_init : MD := (yX13_init, cX13_init, 3, (Option.none : Option FieldType), 3, noEH)
abbrev mX13_now : MD := (yX13_now, cX13_now, 4, (Option.some .int), 3, noEH)
abbrev mX14_by : MD := (yX14_by, cX14_by, 2, (Option.some .int), 2, noEH)
abbrev mX14_init : MD := (yX14_init, cX14_init, 3, (Option.none : Option FieldType), 4, noEH)
abbrev mX15_init : MD := (yX15_init, cX15_init, 3, (Option.none : Option FieldType), 3, noEH)
abbrev mX15_now : MD := (yX15_now, cX15_now, 4, (Option.some .int), 5, noEH)
abbrev mX15_odds : MD := (yX15_odds, cX15_odds, 1, (Option.some .int), 1, noEH)
abbrev mX16_becomes : MD := (yX16_becomes, cX16_becomes, 4, (Option.none : Option FieldType), 1, noEH)
abbrev mX16_init : MD := (yX16_init, cX16_init, 1, (Option.none : Option FieldType), 2, noEH)
abbrev mX16_isAlike : MD := (yX16_isAlike, cX16_isAlike, 7, (Option.some .boolean), 2, noEH)
abbrev mX16_shows : MD := (yX16_shows, cX16_shows, 3, (Option.some .int), 1, noEH)
abbrev mX17_init : MD := (yX17_init, cX17_init, 1, (Option.none : Option FieldType), 2, noEH)
abbrev mX1_init : MD := (yX1_init, cX1_init, 1, (Option.none : Option FieldType), 2, noEH)
abbrev mX1_many : MD := (yX1_many, cX1_many, 1, (Option.some .int), 1, noEH)
abbrev mX1_number : MD := (yX1_number, cX1_number, 2, (Option.some .long), 1, noEH)
abbrev mX1_put : MD := (yX1_put, cX1_put, 5, (Option.none : Option FieldType), 2, noEH)
abbrev mX1_width : MD := (yX1_width, cX1_width, 1, (Option.some .int), 1, noEH)
abbrev mX2_clockAt : MD := (yX2_clockAt, cX2_clockAt, 4, (Option.some .int), 4, noEH)
abbrev mX2_has : MD := (yX2_has, cX2_has, 3, (Option.some .boolean), 2, noEH)
abbrev mX2_init : MD := (yX2_init, cX2_init, 1, (Option.none : Option FieldType), 5, noEH)
abbrev mX2_is : MD := (yX2_is, cX2_is, 1, (Option.some .boolean), 1, noEH)
abbrev mX2_isFree : MD := (yX2_isFree, cX2_isFree, 3, (Option.some .boolean), 5, noEH)
abbrev mX2_isSeen : MD := (yX2_isSeen, cX2_isSeen, 9, (Option.some .boolean), 6, noEH)
abbrev mX2_walks : MD := (yX2_walks, cX2_walks, 10, (Option.none : Option FieldType), 6, noEH)
abbrev mX3_begins : MD := (yX3_begins, cX3_begins, 4, (Option.none : Option FieldType), 2, noEH)
abbrev mX3_draws : MD := (yX3_draws, cX3_draws, 5, (Option.none : Option FieldType), 8, noEH)
abbrev mX3_eyes : MD := (yX3_eyes, cX3_eyes, 5, (Option.some .int), 2, noEH)
abbrev mX3_goes : MD := (yX3_goes, cX3_goes, 3, (Option.none : Option FieldType), 11, noEH)
abbrev mX3_init : MD := (yX3_init, cX3_init, 1, (Option.none : Option FieldType), 2, noEH)
abbrev mX3_is : MD := (yX3_is, cX3_is, 4, (Option.none : Option FieldType), 1, noEH)
abbrev mX3_isDrawn : MD := (yX3_isDrawn, cX3_isDrawn, 5, (Option.some .boolean), 4, noEH)
abbrev mX3_isLooking : MD := (yX3_isLooking, cX3_isLooking, 3, (Option.some .boolean), 2, noEH)
abbrev mX3_isSettled : MD := (yX3_isSettled, cX3_isSettled, 3, (Option.some .boolean), 2, noEH)
abbrev mX3_isThere : MD := (yX3_isThere, cX3_isThere, 3, (Option.some .boolean), 2, noEH)
abbrev mX3_now : MD := (yX3_now, cX3_now, 7, (Option.some .int), 8, noEH)
abbrev mX3_sees : MD := (yX3_sees, cX3_sees, 4, (Option.some .boolean), 7, noEH)
abbrev mX3_settles : MD := (yX3_settles, cX3_settles, 5, (Option.none : Option FieldType), 10, noEH)
abbrev mX3_settlesSome : MD := (yX3_settlesSome, cX3_settlesSome, 6, (Option.some .boolean), 9, noEH)
abbrev mX3_shows : MD := (yX3_shows, cX3_shows, 4, (Option.none : Option FieldType), 4, noEH)
abbrev mX3_steps : MD := (yX3_steps, cX3_steps, 4, (Option.none : Option FieldType), 3, noEH)
abbrev mX3_takes : MD := (yX3_takes, cX3_takes, 5, (Option.none : Option FieldType), 2, noEH)
abbrev mX3_takesOtherwise : MD := (yX3_takesOtherwise, cX3_takesOtherwise, 3, (Option.some .boolean), 1, noEH)
abbrev mX5_asks : MD := (yX5_asks, cX5_asks, 2, (Option.none : Option FieldType), 8, noEH)
abbrev mX5_clock : MD := (yX5_clock, cX5_clock, 6, (Option.none : Option FieldType), 10, noEH)
abbrev mX5_fault : MD := (yX5_fault, cX5_fault, 2, (Option.some (.object "UnseenClock$Fault")), 6, noEH)
abbrev mX5_first : MD := (yX5_first, cX5_first, 1, (Option.none : Option FieldType), 10, noEH)
abbrev mX5_free : MD := (yX5_free, cX5_free, 2, (Option.some .int), 8, noEH)
abbrev mX5_habit : MD := (yX5_habit, cX5_habit, 3, (Option.some (.object "UnseenClock$Habit")), 10, noEH)
abbrev mX5_init : MD := (yX5_init, cX5_init, 3, (Option.none : Option FieldType), 6, noEH)
abbrev mX5_is : MD := (yX5_is, cX5_is, 3, (Option.some .boolean), 6, noEH)
abbrev mX5_isAt : MD := (yX5_isAt, cX5_isAt, 3, (Option.some .boolean), 2, noEH)
abbrev mX5_latest : MD := (yX5_latest, cX5_latest, 1, (Option.some (.object "UnseenClock$Person")), 7, noEH)
abbrev mX5_leg : MD := (yX5_leg, cX5_leg, 3, (Option.none : Option FieldType), 8, noEH)
abbrev mX5_line : MD := (yX5_line, cX5_line, 1, (Option.none : Option FieldType), 12, noEH)
abbrev mX5_look : MD := (yX5_look, cX5_look, 3, (Option.none : Option FieldType), 11, noEH)
abbrev mX5_next : MD := (yX5_next, cX5_next, 1, (Option.none : Option FieldType), 3, noEH)
abbrev mX5_number : MD := (yX5_number, cX5_number, 4, (Option.some .int), 9, noEH)
abbrev mX5_number_2 : MD := (yX5_number_2, cX5_number_2, 4, (Option.some .int), 7, noEH)
abbrev mX5_person : MD := (yX5_person, cX5_person, 3, (Option.none : Option FieldType), 10, noEH)
abbrev mX5_reads : MD := (yX5_reads, cX5_reads, 1, (Option.some (.object "UnseenClock$Square")), 13, noEH)
abbrev mX5_room : MD := (yX5_room, cX5_room, 2, (Option.none : Option FieldType), 7, noEH)
abbrev mX5_takes : MD := (yX5_takes, cX5_takes, 3, (Option.some .boolean), 7, noEH)
abbrev mX5_wall : MD := (yX5_wall, cX5_wall, 2, (Option.none : Option FieldType), 10, noEH)
abbrev mX5_way : MD := (yX5_way, cX5_way, 2, (Option.some .int), 7, noEH)
abbrev mX6_init : MD := (yX6_init, cX6_init, 3, (Option.none : Option FieldType), 5, noEH)
abbrev mX7_init : MD := (yX7_init, cX7_init, 7, (Option.none : Option FieldType), 2, noEH)
abbrev mX8_init : MD := (yX8_init, cX8_init, 4, (Option.none : Option FieldType), 5, noEH)
abbrev mX9_init : MD := (yX9_init, cX9_init, 2, (Option.none : Option FieldType), 2, noEH)
abbrev mX9_odds : MD := (yX9_odds, cX9_odds, 1, (Option.some .int), 1, noEH)
abbrev mJ14_numberOfTrailingZeros : MD := (yJ14_numberOfTrailingZeros, cJ14_numberOfTrailingZeros, 2, (Option.some .int), 1, noEH)
theorem hy_X0_agree : hyS mX0_agree 1 := by decide +kernel
theorem hy_X0_agrees : hyS mX0_agrees 3 := by decide +kernel
theorem hy_X0_alike : hyS mX0_alike 1 := by decide +kernel
theorem hy_X0_all : hyS mX0_all 3 := by decide +kernel
theorem hy_X0_among : hyS mX0_among 3 := by decide +kernel
theorem hy_X0_areBeside : hyS mX0_areBeside 2 := by decide +kernel
theorem hy_X0_at : hyS mX0_at 2 := by decide +kernel
theorem hy_X0_away : hyS mX0_away 4 := by decide +kernel
theorem hy_X0_back : hyS mX0_back 1 := by decide +kernel
theorem hy_X0_bell : hyS mX0_bell 2 := by decide +kernel
theorem hy_X0_both : hyS mX0_both 4 := by decide +kernel
theorem hy_X0_call : hyS mX0_call 2 := by decide +kernel
theorem hy_X0_clocks : hyS mX0_clocks 0 := by decide +kernel
theorem hy_X0_common : hyS mX0_common 3 := by decide +kernel
theorem hy_X0_count : hyS mX0_count 1 := by decide +kernel
theorem hy_X0_courses : hyS mX0_courses 0 := by decide +kernel
theorem hy_X0_day : hyS mX0_day 3 := by decide +kernel
theorem hy_X0_days : hyS mX0_days 5 := by decide +kernel
theorem hy_X0_drawn : hyS mX0_drawn 1 := by decide +kernel
theorem hy_X0_end : hyS mX0_end 1 := by decide +kernel
theorem hy_X0_eyes : hyS mX0_eyes 2 := by decide +kernel
theorem hy_X0_fault : hyS mX0_fault 1 := by decide +kernel
theorem hy_X0_feed : hyS mX0_feed 5 := by decide +kernel
theorem hy_X0_gathers : hyS mX0_gathers 0 := by decide +kernel
theorem hy_X0_hours : hyS mX0_hours 1 := by decide +kernel
theorem hy_X0_hush : hyS mX0_hush 4 := by decide +kernel
theorem hy_X0_image : hyS mX0_image 1 := by decide +kernel
theorem hy_X0_in : hyS mX0_in 3 := by decide +kernel
theorem hy_X0_isAlike : hyS mX0_isAlike 3 := by decide +kernel
theorem hy_X0_isAsked : hyS mX0_isAsked 3 := by decide +kernel
theorem hy_X0_isClock : hyS mX0_isClock 1 := by decide +kernel
theorem hy_X0_isDay : hyS mX0_isDay 3 := by decide +kernel
theorem hy_X0_isHour : hyS mX0_isHour 1 := by decide +kernel
theorem hy_X0_isLearnt : hyS mX0_isLearnt 4 := by decide +kernel
theorem hy_X0_isMany : hyS mX0_isMany 2 := by decide +kernel
theorem hy_X0_isMinute : hyS mX0_isMinute 1 := by decide +kernel
theorem hy_X0_isMoment : hyS mX0_isMoment 1 := by decide +kernel
theorem hy_X0_isOn : hyS mX0_isOn 2 := by decide +kernel
theorem hy_X0_isPerson : hyS mX0_isPerson 1 := by decide +kernel
theorem hy_X0_isSlot : hyS mX0_isSlot 1 := by decide +kernel
theorem hy_X0_isStep : hyS mX0_isStep 3 := by decide +kernel
theorem hy_X0_keep : hyS mX0_keep 3 := by decide +kernel
theorem hy_X0_kept : hyS mX0_kept 3 := by decide +kernel
theorem hy_X0_keptBy : hyS mX0_keptBy 2 := by decide +kernel
theorem hy_X0_knows : hyS mX0_knows 3 := by decide +kernel
theorem hy_X0_last : hyS mX0_last 3 := by decide +kernel
theorem hy_X0_learns : hyS mX0_learns 3 := by decide +kernel
theorem hy_X0_leastKept : hyS mX0_leastKept 3 := by decide +kernel
theorem hy_X0_lie : hyS mX0_lie 4 := by decide +kernel
theorem hy_X0_looks : hyS mX0_looks 3 := by decide +kernel
theorem hy_X0_manyShow : hyS mX0_manyShow 2 := by decide +kernel
theorem hy_X0_meets : hyS mX0_meets 1 := by decide +kernel
theorem hy_X0_meets_2 : hyS mX0_meets_2 2 := by decide +kernel
theorem hy_X0_mends : hyS mX0_mends 2 := by decide +kernel
theorem hy_X0_needs : hyS mX0_needs 3 := by decide +kernel
theorem hy_X0_open : hyS mX0_open 0 := by decide +kernel
theorem hy_X0_opens : hyS mX0_opens 1 := by decide +kernel
theorem hy_X0_pace : hyS mX0_pace 3 := by decide +kernel
theorem hy_X0_paste : hyS mX0_paste 5 := by decide +kernel
theorem hy_X0_people : hyS mX0_people 0 := by decide +kernel
theorem hy_X0_plain : hyS mX0_plain 0 := by decide +kernel
theorem hy_X0_plainSeen : hyS mX0_plainSeen 0 := by decide +kernel
theorem hy_X0_rings : hyS mX0_rings 3 := by decide +kernel
theorem hy_X0_row : hyS mX0_row 3 := by decide +kernel
theorem hy_X0_sees : hyS mX0_sees 3 := by decide +kernel
theorem hy_X0_shifts : hyS mX0_shifts 4 := by decide +kernel
theorem hy_X0_shown : hyS mX0_shown 4 := by decide +kernel
theorem hy_X0_shows : hyS mX0_shows 2 := by decide +kernel
theorem hy_X0_showsWrong : hyS mX0_showsWrong 4 := by decide +kernel
theorem hy_X0_sights : hyS mX0_sights 1 := by decide +kernel
theorem hy_X0_spots : hyS mX0_spots 1 := by decide +kernel
theorem hy_X0_still : hyS mX0_still 2 := by decide +kernel
theorem hy_X0_sure : hyS mX0_sure 3 := by decide +kernel
theorem hy_X0_sureBy : hyS mX0_sureBy 4 := by decide +kernel
theorem hy_X0_value : hyS mX0_value 3 := by decide +kernel
theorem hy_X0_when : hyS mX0_when 2 := by decide +kernel
theorem hy_X0_whyNot : hyS mX0_whyNot 1 := by decide +kernel
theorem hy_X0_without : hyS mX0_without 3 := by decide +kernel
theorem hy_X0_write : hyS mX0_write 3 := by decide +kernel
theorem hy_X10_now : hyS mX10_now 3 := by decide +kernel
theorem hy_X11_now : hyS mX11_now 3 := by decide +kernel
theorem hy_X12_now : hyS mX12_now 3 := by decide +kernel
theorem hy_X13_by : hyS mX13_by 1 := by decide +kernel
theorem hy_X13_now : hyS mX13_now 3 := by decide +kernel
theorem hy_X14_by : hyS mX14_by 1 := by decide +kernel
theorem hy_X15_now : hyS mX15_now 3 := by decide +kernel
theorem hy_X15_odds : hyS mX15_odds 0 := by decide +kernel
theorem hy_X16_becomes : hyS mX16_becomes 1 := by decide +kernel
theorem hy_X16_isAlike : hyS mX16_isAlike 3 := by decide +kernel
theorem hy_X16_shows : hyS mX16_shows 2 := by decide +kernel
theorem hy_X1_many : hyS mX1_many 0 := by decide +kernel
theorem hy_X1_number : hyS mX1_number 1 := by decide +kernel
theorem hy_X1_put : hyS mX1_put 2 := by decide +kernel
theorem hy_X1_width : hyS mX1_width 0 := by decide +kernel
theorem hy_X2_clockAt : hyS mX2_clockAt 2 := by decide +kernel
theorem hy_X2_has : hyS mX2_has 2 := by decide +kernel
theorem hy_X2_is : hyS mX2_is 0 := by decide +kernel
theorem hy_X2_isFree : hyS mX2_isFree 2 := by decide +kernel
theorem hy_X2_isSeen : hyS mX2_isSeen 2 := by decide +kernel
theorem hy_X2_walks : hyS mX2_walks 0 := by decide +kernel
theorem hy_X3_begins : hyS mX3_begins 3 := by decide +kernel
theorem hy_X3_draws : hyS mX3_draws 1 := by decide +kernel
theorem hy_X3_eyes : hyS mX3_eyes 2 := by decide +kernel
theorem hy_X3_goes : hyS mX3_goes 0 := by decide +kernel
theorem hy_X3_is : hyS mX3_is 3 := by decide +kernel
theorem hy_X3_isDrawn : hyS mX3_isDrawn 2 := by decide +kernel
theorem hy_X3_isLooking : hyS mX3_isLooking 2 := by decide +kernel
theorem hy_X3_isSettled : hyS mX3_isSettled 2 := by decide +kernel
theorem hy_X3_isThere : hyS mX3_isThere 2 := by decide +kernel
theorem hy_X3_now : hyS mX3_now 3 := by decide +kernel
theorem hy_X3_sees : hyS mX3_sees 3 := by decide +kernel
theorem hy_X3_settles : hyS mX3_settles 1 := by decide +kernel
theorem hy_X3_settlesSome : hyS mX3_settlesSome 1 := by decide +kernel
theorem hy_X3_shows : hyS mX3_shows 1 := by decide +kernel
theorem hy_X3_steps : hyS mX3_steps 2 := by decide +kernel
theorem hy_X3_takes : hyS mX3_takes 3 := by decide +kernel
theorem hy_X3_takesOtherwise : hyS mX3_takesOtherwise 0 := by decide +kernel
theorem hy_X5_asks : hyS mX5_asks 1 := by decide +kernel
theorem hy_X5_clock : hyS mX5_clock 0 := by decide +kernel
theorem hy_X5_fault : hyS mX5_fault 1 := by decide +kernel
theorem hy_X5_first : hyS mX5_first 0 := by decide +kernel
theorem hy_X5_free : hyS mX5_free 1 := by decide +kernel
theorem hy_X5_habit : hyS mX5_habit 1 := by decide +kernel
theorem hy_X5_is : hyS mX5_is 1 := by decide +kernel
theorem hy_X5_isAt : hyS mX5_isAt 2 := by decide +kernel
theorem hy_X5_latest : hyS mX5_latest 0 := by decide +kernel
theorem hy_X5_leg : hyS mX5_leg 1 := by decide +kernel
theorem hy_X5_line : hyS mX5_line 0 := by decide +kernel
theorem hy_X5_look : hyS mX5_look 0 := by decide +kernel
theorem hy_X5_next : hyS mX5_next 0 := by decide +kernel
theorem hy_X5_number : hyS mX5_number 3 := by decide +kernel
theorem hy_X5_number_2 : hyS mX5_number_2 2 := by decide +kernel
theorem hy_X5_person : hyS mX5_person 0 := by decide +kernel
theorem hy_X5_reads : hyS mX5_reads 0 := by decide +kernel
theorem hy_X5_room : hyS mX5_room 1 := by decide +kernel
theorem hy_X5_takes : hyS mX5_takes 1 := by decide +kernel
theorem hy_X5_wall : hyS mX5_wall 0 := by decide +kernel
theorem hy_X5_way : hyS mX5_way 0 := by decide +kernel
theorem hy_X9_odds : hyS mX9_odds 0 := by decide +kernel
theorem hy_J13_fill : hyS mJ13_fill 2 := by decide +kernel
theorem hy_J13_fill_2 : hyS mJ13_fill_2 2 := by decide +kernel
theorem hy_J3_abs : hyS mJ3_abs 1 := by decide +kernel
theorem hy_J3_max : hyS mJ3_max 2 := by decide +kernel
theorem hy_J3_min : hyS mJ3_min 2 := by decide +kernel
theorem hy_J14_bitCount : hyS mJ14_bitCount 1 := by decide +kernel
theorem hy_J14_signum : hyS mJ14_signum 1 := by decide +kernel
theorem hy_J14_numberOfTrailingZeros : hyS mJ14_numberOfTrailingZeros 1 := by decide +kernel
section SqCalls
variable {M M' : MD} {pc idx : Nat}
/-- a square's method that changes nothing -/
def SF_V (M : MD) (P : (Nat → Int32) → Prop) (F : (Nat → Int32) → Int32) : Prop := ∀ (X : Cx) (h : AH) (sk : Nat → Nat) (w : Nat → Int32) , WkX X → SqW X h sk w → P  w → Cg X M 0 0 [.ref (sk 0)] h (PR (some (.int (F  w))) h)
def pC_V (P : (Nat → Int32) → Prop) (F : (Nat → Int32) → Int32) : OPS PSv := .inr (fun s => match s with
  | (L, .ref a :: st, (h0, sk, w)) => match wt8 st with
    | true => some ((a = sk 0 ∧ P  w) ∧ True, L, .int (F  w) :: st, (h0, sk, w))
    | false => none
  | _ => none)
theorem p_C_V {P : (Nat → Int32) → Prop} {F : (Nat → Int32) → Int32} (hM : SF_V M' P F) (hG : GoodIn lw_all (wsV M.y.cls idx RX2 M'.y (ws_ M'.y M'.cc M'.nL M'.ret))) (hy : hyS M' 0) (hyc : M'.y.cls = RX2) (hR : M'.lv + 1 ≤ M.lv ∧ M'.nL ≤ 421) (hd : decode M.cc pc = .ok (.invokevirtual idx, 3)) : JStp PSq M pc (pc + 3) (pC_V P F) := by
  intro X R Z k n L st x cnd L' st' x' hf hc kk h hp
  dsimp only at hf
  split at hf
  · rename_i heq
    cases heq
    split at hf
    · rename_i hw8
      simp only [Option.some.injEq, Prod.mk.injEq] at hf
      obtain ⟨rfl, rfl, rfl, rfl⟩ := hf
      obtain ⟨⟨hc0, hc1⟩, hs⟩ := hc
      have hw := (show WkX X ∧ SqW X h _ _ from ⟨hp.2.1, hp.2.2⟩).1
      have hz := (show WkX X ∧ SqW X h _ _ from ⟨hp.2.1, hp.2.2⟩).2
      try dsimp only at hz
      subst hc0
      exact J.pureV (As := []) (hM X h _ _ hw hz hc1) hz.1 (ci := 2) rfl hd hG hy hyc rfl hR hw8 (kk h hp)
    · cases hf
  · cases hf
def qC_V (j : Nat) (P : (Nat → Int32) → Prop) (F : (Nat → Int32) → Int32) : OPS Cv := .inr (fun s => match s with
  | (L, .ref a :: st, (ad, A, B, sk, sw, E)) => match wt8 st with
    | true => some ((a = sk j 0 ∧ P  (sw j)) ∧ SqL E j, L, .int (F  (sw j)) :: st, (ad, A, B, sk, sw, E))
    | false => none
  | _ => none)
theorem q_C_V {j : Nat} {P : (Nat → Int32) → Prop} {F : (Nat → Int32) → Int32} (hM : SF_V M' P F) (hG : GoodIn lw_all (wsV M.y.cls idx RX2 M'.y (ws_ M'.y M'.cc M'.nL M'.ret))) (hy : hyS M' 0) (hyc : M'.y.cls = RX2) (hR : M'.lv + 1 ≤ M.lv ∧ M'.nL ≤ 421) (hd : decode M.cc pc = .ok (.invokevirtual idx, 3)) : JStp CP M pc (pc + 3) (qC_V j P F) := by
  intro X R Z k n L st x cnd L' st' x' hf hc kk h hp
  dsimp only at hf
  split at hf
  · rename_i heq
    cases heq
    split at hf
    · rename_i hw8
      simp only [Option.some.injEq, Prod.mk.injEq] at hf
      obtain ⟨rfl, rfl, rfl, rfl⟩ := hf
      obtain ⟨⟨hc0, hc1⟩, hs⟩ := hc
      have hw := (show WkX X ∧ SqW X h _ _ from ⟨hp.1.1, (hp.sq hs).1⟩).1
      have hz := (show WkX X ∧ SqW X h _ _ from ⟨hp.1.1, (hp.sq hs).1⟩).2
      try dsimp only at hz
      subst hc0
      exact J.pureV (As := []) (hM X h _ _ hw hz hc1) hz.1 (ci := 2) rfl hd hG hy hyc rfl hR hw8 (kk h hp)
    · cases hf
  · cases hf
/-- a square's method that changes nothing -/
def SF_II (M : MD) (P : Int32 → Int32 → (Nat → Int32) → Prop) (F : Int32 → Int32 → (Nat → Int32) → Int32) : Prop := ∀ (X : Cx) (h : AH) (sk : Nat → Nat) (w : Nat → Int32) (a1 : Int32) (a2 : Int32), WkX X → SqW X h sk w → P a1 a2 w → Cg X M 0 0 [.ref (sk 0), .int a1, .int a2] h (PR (some (.int (F a1 a2 w))) h)
def pC_II (P : Int32 → Int32 → (Nat → Int32) → Prop) (F : Int32 → Int32 → (Nat → Int32) → Int32) : OPS PSv := .inr (fun s => match s with
  | (L, .int a2 :: .int a1 :: .ref a :: st, (h0, sk, w)) => match wt8 st with
    | true => some ((a = sk 0 ∧ P a1 a2 w) ∧ True, L, .int (F a1 a2 w) :: st, (h0, sk, w))
    | false => none
  | _ => none)
theorem p_C_II {P : Int32 → Int32 → (Nat → Int32) → Prop} {F : Int32 → Int32 → (Nat → Int32) → Int32} (hM : SF_II M' P F) (hG : GoodIn lw_all (wsV M.y.cls idx RX2 M'.y (ws_ M'.y M'.cc M'.nL M'.ret))) (hy : hyS M' 2) (hyc : M'.y.cls = RX2) (hR : M'.lv + 1 ≤ M.lv ∧ M'.nL ≤ 421) (hd : decode M.cc pc = .ok (.invokevirtual idx, 3)) : JStp PSq M pc (pc + 3) (pC_II P F) := by
  intro X R Z k n L st x cnd L' st' x' hf hc kk h hp
  dsimp only at hf
  split at hf
  · rename_i heq
    cases heq
    split at hf
    · rename_i hw8
      simp only [Option.some.injEq, Prod.mk.injEq] at hf
      obtain ⟨rfl, rfl, rfl, rfl⟩ := hf
      obtain ⟨⟨hc0, hc1⟩, hs⟩ := hc
      have hw := (show WkX X ∧ SqW X h _ _ from ⟨hp.2.1, hp.2.2⟩).1
      have hz := (show WkX X ∧ SqW X h _ _ from ⟨hp.2.1, hp.2.2⟩).2
      try dsimp only at hz
      subst hc0
      exact J.pureV (As := [.int _, .int _]) (hM X h _ _ _ _ hw hz hc1) hz.1 (ci := 2) rfl hd hG hy hyc rfl hR hw8 (kk h hp)
    · cases hf
  · cases hf
def qC_II (j : Nat) (P : Int32 → Int32 → (Nat → Int32) → Prop) (F : Int32 → Int32 → (Nat → Int32) → Int32) : OPS Cv := .inr (fun s => match s with
  | (L, .int a2 :: .int a1 :: .ref a :: st, (ad, A, B, sk, sw, E)) => match wt8 st with
    | true => some ((a = sk j 0 ∧ P a1 a2 (sw j)) ∧ SqL E j, L, .int (F a1 a2 (sw j)) :: st, (ad, A, B, sk, sw, E))
    | false => none
  | _ => none)
theorem q_C_II {j : Nat} {P : Int32 → Int32 → (Nat → Int32) → Prop} {F : Int32 → Int32 → (Nat → Int32) → Int32} (hM : SF_II M' P F) (hG : GoodIn lw_all (wsV M.y.cls idx RX2 M'.y (ws_ M'.y M'.cc M'.nL M'.ret))) (hy : hyS M' 2) (hyc : M'.y.cls = RX2) (hR : M'.lv + 1 ≤ M.lv ∧ M'.nL ≤ 421) (hd : decode M.cc pc = .ok (.invokevirtual idx, 3)) : JStp CP M pc (pc + 3) (qC_II j P F) := by
  intro X R Z k n L st x cnd L' st' x' hf hc kk h hp
  dsimp only at hf
  split at hf
  · rename_i heq
    cases heq
    split at hf
    · rename_i hw8
      simp only [Option.some.injEq, Prod.mk.injEq] at hf
      obtain ⟨rfl, rfl, rfl, rfl⟩ := hf
      obtain ⟨⟨hc0, hc1⟩, hs⟩ := hc
      have hw := (show WkX X ∧ SqW X h _ _ from ⟨hp.1.1, (hp.sq hs).1⟩).1
      have hz := (show WkX X ∧ SqW X h _ _ from ⟨hp.1.1, (hp.sq hs).1⟩).2
      try dsimp only at hz
      subst hc0
      exact J.pureV (As := [.int _, .int _]) (hM X h _ _ _ _ hw hz hc1) hz.1 (ci := 2) rfl hd hG hy hyc rfl hR hw8 (kk h hp)
    · cases hf
  · cases hf
end SqCalls
section PSqR
variable {X : Cx} {M : MD} {R : Room} {pc : Nat} {L : List (Option Value)} {x : PSv} {r : Option Value} {h0 : AH}
theorem P_start {av : List Value} {h : AH} {sk : Nat → Nat} {w : Nat → Int32} {Q : Outcome → AH → Prop} (pad : Nat) (hL : L = entL av ++ List.replicate pad none) (hX : WkX X) (hs : SqW X h sk w) (k : JS PSq X M (rmOf M.lv 0 0) (ZQ X 0 0 Q) 0 0 0 L [] (h, sk, w)) (hy : plainFor M.y = true := by first | exact plainFor_of_name (by decide) | decide +kernel) (hE : M.eh = noEH := by rfl) (hn : (lg_sl av).length ≤ M.nL := by exact Nat.le_of_ble_eq_true rfl) : Cg X M 0 0 av h Q := Cg.of hy hE pad hL hn (k h ⟨rfl, hX, hs⟩)
theorem p_iret {v : Int32} (hd : decode M.cc pc = .ok (.ireturn, 1)) (hr : M.ret = some .int) (hx : x.1 = h0) (hq : r = some (.int v)) : JS PSq X M R (ZQ X 0 0 (PR r h0)) 0 0 pc L [.int v] x :=
  fun h hp => J.iret hd hr (Nat.le_refl _) (Nat.le_refl _) ⟨by rw [hq], by rw [hp.1, hx]⟩
theorem p_zret {v : Int32} (hd : decode M.cc pc = .ok (.ireturn, 1)) (hr : M.ret = some .boolean) (hx : x.1 = h0) (hz : narrow .boolean (.int v) = .int v) (hq : r = some (.int v)) : JS PSq X M R (ZQ X 0 0 (PR r h0)) 0 0 pc L [.int v] x :=
  fun h hp => J.zret hd hr hz (Nat.le_refl _) (Nat.le_refl _) ⟨by rw [hq], by rw [hp.1, hx]⟩
end PSqR
/-- the contract of a method that keeps the component's shape: ints and longs alone may change -/
def QC (X : Cx) (M : MD) (av : List Value) (ad : Nat → Nat) (A : Nat → Nat → Int32) (B : Nat → Nat → Int64) (sk : Nat → Nat → Nat) (sw : Nat → Nat → Int32) (E : Nat → Nat) (Q : Option Value → (Nat → Nat → Int32) → (Nat → Nat → Int64) → Prop) : Prop := RCc X M 0 0 av (ad, A, B, sk, sw, E) (fun r x' => ∃ A' B', x' = (ad, A', B', sk, sw, E) ∧ Q r A' B')
section QCr
variable {X : Cx} {M M' : MD} {R : Room} {Z : ZT} {k n pc idx : Nat} {L : List (Option Value)} {st As : List Value} {ad : Nat → Nat} {A : Nat → Nat → Int32} {B : Nat → Nat → Int64} {sk : Nat → Nat → Nat} {sw : Nat → Nat → Int32} {E : Nat → Nat} {Q : Option Value → (Nat → Nat → Int32) → (Nat → Nat → Int64) → Prop}
theorem cq {b ci nA : Nat} {q : vw_C} (hM : QC X M' (.ref b :: As) ad A B sk sw E Q) (hrec : ∀ h, CP X (ad, A, B, sk, sw, E) h → ∃ fs, h b = some (.inr (ci, fs))) (hci : vwCl[ci]? = some q) (hG : GoodIn lw_all (wsV M.y.cls idx q.1 M'.y (ws_ M'.y M'.cc M'.nL M'.ret))) (hd : decode M.cc pc = .ok (.invokevirtual idx, 3)) {st0 : List Value} (h0 : st0 = As.reverse ++ .ref b :: st) (hy : hyS M' nA)
    (kk : ∀ r A' B', Q r A' B' → JS CP X M R Z k n (pc + 3) L (r.toList ++ st) (ad, A', B', sk, sw, E)) (hyc : M'.y.cls = q.1 := by rfl) (hA : As.length = nA := by rfl) (hR : M'.lv + 1 ≤ M.lv ∧ M'.nL ≤ 421 := by decide) (hst : wt8 st = true := by rfl) : JS CP X M R Z k n pc L st0 (ad, A, B, sk, sw, E) := by
  refine cc0 hM hrec hci hG hd h0 (fun r x' q => ?_) hy hyc hA hR hst
  obtain ⟨A', B', rfl, q⟩ := q
  exact kk r A' B' q
theorem rec0 (h : AH) (hp : CP X (ad, A, B, sk, sw, E) h) : ∃ fs, h (ad 0) = some (.inr (0, fs)) := ⟨_, hp.at 0 rfl⟩
theorem rec3 (h : AH) (hp : CP X (ad, A, B, sk, sw, E) h) : ∃ fs, h (ad 3) = some (.inr (3, fs)) := ⟨_, hp.at 3 rfl⟩
/-- Arrays.fill(int[], v) -/
theorem c_fill {i N : Nat} {v : Int32} (ha : arrK E i = some (N, 0)) (hN : N < 100000) (hd : decode M.cc pc = .ok (.invokestatic idx, 3)) (hG : GoodIn lw_all (va_wsS M.y.cls idx yJ13_fill (ws_ yJ13_fill cJ13_fill 4 none))) (hR : 2 ≤ M.lv) (kk : ∀ g, (∀ j, j < N → g j = v) → JS CP X M R Z k n (pc + 3) L st (ad, va_up A i g, B, sk, sw, E)) (hst : wt8 st = true := by rfl) : JS CP X M R Z k n pc L (.int v :: .ref (ad i) :: st) (ad, A, B, sk, sw, E) := by
  intro h hp p e s m args below meth c B' rk H locs ls hW hS hL
  refine J.callS (M' := mJ13_fill) (As := [.ref (ad i), .int v]) (mc := 0) (ms := 0) (ok_fill (hp.at i (celK_arr ha)) hN) (fun o h' q => ⟨_, q.1⟩) hd hG hy_J13_fill ⟨hR, by decide⟩ ⟨rk.2.2.1, rk.2.2.2⟩ (Nat.le_of_ble_eq_true hst) (fun r h' q => ?_) p e s m args below meth c B' rk H locs ls hW hS hL
  obtain ⟨q1, g, q2, rfl⟩ := q
  cases q1
  refine kk g q2 _ (hp.upd (k := i) (fun j hj => va_up_ne _ _ hj) (fun j hj => rfl) ?_)
  rw [va_up_self, celK_arr ha]
theorem c_fillZ {i N : Nat} {v : Int32} (hv : vp_nar .boolean v = v) (ha : arrK E i = some (N, 4)) (hN : N < 100000) (hd : decode M.cc pc = .ok (.invokestatic idx, 3)) (hG : GoodIn lw_all (va_wsS M.y.cls idx yJ13_fill_2 (ws_ yJ13_fill_2 cJ13_fill_2 4 none))) (hR : 2 ≤ M.lv) (kk : ∀ g, (∀ j, j < N → g j = v) → JS CP X M R Z k n (pc + 3) L st (ad, va_up A i g, B, sk, sw, E)) (hst : wt8 st = true := by rfl) : JS CP X M R Z k n pc L (.int v :: .ref (ad i) :: st) (ad, A, B, sk, sw, E) := by
  intro h hp p e s m args below meth c B' rk H locs ls hW hS hL
  refine J.callS (M' := mJ13_fill_2) (As := [.ref (ad i), .int v]) (mc := 0) (ms := 0) (ok_fill_2 hv (hp.at i (celK_arr ha)) hN) (fun o h' q => ⟨_, q.1⟩) hd hG hy_J13_fill_2 ⟨hR, by decide⟩ ⟨rk.2.2.1, rk.2.2.2⟩ (Nat.le_of_ble_eq_true hst) (fun r h' q => ?_) p e s m args below meth c B' rk H locs ls hW hS hL
  obtain ⟨q1, g, q2, rfl⟩ := q
  cases q1
  refine kk g q2 _ (hp.upd (k := i) (fun j hj => va_up_ne _ _ hj) (fun j hj => rfl) ?_)
  rw [va_up_self, celK_arr ha]
end QCr
/-! calls by table: inherited, overridden, abstract -/
section VCalls
variable {X : Cx} {M M' : MD} {R : Room} {Z : ZT} {mc ms k n pc idx : Nat} {L : List (Option Value)} {st As : List Value} {h : AH} {Q : Outcome → AH → Prop} {owner : String} {x : MethodName} {b ci : Nat} {fs : List Value} {q : vw_C}
theorem J.callT (hC : Cg X M' mc ms (.ref b :: As) h Q) (hret : ∀ o h', Q o h' → ∃ v, o = .returned v) (hb : h b = some (.inr (ci, fs))) (hci : vwCl[ci]? = some q) (hd : decode M.cc pc = .ok (.invokevirtual idx, 3))
    (cw : ∀ (s : State) (args : Array Value), (∀ w ∈ lw_all, w.before args s = true) → GI X s → M'.lv + 1 ≤ R.frames ∧ 8 + (M'.nL + 11) + 440 * M'.lv ≤ R.locals → va_CU R s args M.y.cls q.1 owner idx x M'.y M'.cc M'.nL M'.ret (ws_ M'.y M'.cc M'.nL M'.ret) (rmOf M'.lv mc ms) mc ms As.length)
    (hR : M'.lv + 1 ≤ M.lv ∧ M'.nL ≤ 421) (hf : k + mc ≤ R.cells ∧ n + ms ≤ R.slots) (hst : (st.map fun v => v.category).sum ≤ 8)
    (kk : ∀ v h', Q (.returned v) h' → J X M R Z (pc + 3) L (v.toList ++ st) h' (k + mc) (n + ms)) : J X M R Z pc L (As.reverse ++ .ref b :: st) h k n := by
  intro p e s m args below meth c B rk H locs ls hW hS hL
  obtain ⟨ws, hP, hD, hh⟩ := id hW
  obtain ⟨q0, hq0⟩ := hh b _ hb
  refine J.after (va_runU (As := As) (rest := st) ⟨B.1, B.2.1, B.2.2.2.2.1, B.2.2.2.2.2.1, B.2.2.2.2.2.2.1⟩ (hC.met hret) (cw s args B.2.2.2.2.2.2.1 B.2.2.2.2.2.2.2.1 ⟨Nat.le_trans hR.1 rk.1, by have := rk.2.1; have := hR.1; have := hR.2; omega⟩) ⟨Cg.blind, va_recv B.2.2.2.2.2.2.2.1.1 hP hci hq0, J.pre B.2.2.2.2.2.2.2.1 hW hS (.ref b :: As)⟩ rfl rfl hL.1 rfl (lv_room hst) hd hf) B rk hf hS hL kk
theorem lw_U {own : String} {C : String} {y : MethodName} {bb : ByteArray} {Lo : Nat} {r : Option FieldType} (h1 : Cond.methodLink own idx x ∈ lw_all) (h2 : Cond.sameMethod x.cls owner x.name x.desc ∈ lw_all) (h3 : Cond.selects C x y ∈ lw_all) (h4 : Cond.instanceMethod y ∈ lw_all) (h5 : Cond.initialized y.cls ∈ lw_all) (h6 : Cond.code y bb Lo r ∈ lw_all) : GoodIn lw_all (va_wsU own idx C owner x y (ws_ y bb Lo r)) := by
  refine lw_app ?_ (lw_meth h6)
  intro w hw
  simp only [List.mem_cons, List.not_mem_nil, or_false] at hw
  rcases hw with rfl | rfl | rfl | rfl | rfl
  · exact h1
  · exact h2
  · exact h3
  · exact h4
  · exact h5
theorem lw_O {own : String} {C : String} {y : MethodName} {bb : ByteArray} {Lo : Nat} {r : Option FieldType} (h1 : Cond.methodLink own idx x ∈ lw_all) (h2 : Cond.sameMethod x.cls owner x.name x.desc ∈ lw_all) (h0 : Cond.instanceMethod ⟨owner, x.name, x.desc⟩ ∈ lw_all) (h3 : Cond.selects C x y ∈ lw_all) (h4 : Cond.instanceMethod y ∈ lw_all) (h5 : Cond.initialized y.cls ∈ lw_all) (h6 : Cond.code y bb Lo r ∈ lw_all) : GoodIn lw_all (va_wsO own idx C owner x y (ws_ y bb Lo r)) := by
  refine lw_app ?_ (lw_meth h6)
  intro w hw
  simp only [List.mem_cons, List.not_mem_nil, or_false] at hw
  rcases hw with rfl | rfl | rfl | rfl | rfl | rfl
  · exact h1
  · exact h2
  · exact h0
  · exact h3
  · exact h4
  · exact h5
end VCalls
