set_option maxRecDepth 100000
/-! ===== UnseenClockModel: methods, call words, steps by signature, fields ===== -/
abbrev mX4_init : MD := (yX4_init, cX4_init, 1, (Option.none : Option FieldType), 2, noEH)
abbrev mX4_image : MD := (yX4_image, cX4_image, 3, (Option.some .int), 2, noEH)
abbrev mX4_in : MD := (yX4_in, cX4_in, 6, (Option.some .boolean), 1, noEH)
abbrev mX4_back : MD := (yX4_back, cX4_back, 3, (Option.some .int), 2, noEH)
abbrev mX4_feed : MD := (yX4_feed, cX4_feed, 7, (Option.some .int), 1, noEH)
abbrev mX4_end : MD := (yX4_end, cX4_end, 2, (Option.some .int), 2, noEH)
abbrev mX4_fault : MD := (yX4_fault, cX4_fault, 2, (Option.some .int), 1, noEH)
abbrev mX4_square : MD := (yX4_square, cX4_square, 2, (Option.some .int), 13, noEH)
abbrev mX4_advance : MD := (yX4_advance, cX4_advance, 2, (Option.none : Option FieldType), 2, noEH)
abbrev mX4_see : MD := (yX4_see, cX4_see, 2, (Option.some .int), 1, noEH)
abbrev mX4_good : MD := (yX4_good, cX4_good, 1, (Option.some .boolean), 1, noEH)
abbrev mX4_readLine : MD := (yX4_readLine, cX4_readLine, 1, (Option.none : Option FieldType), 12, noEH)
abbrev mX4_needs : MD := (yX4_needs, cX4_needs, 2, (Option.none : Option FieldType), 8, noEH)
abbrev mX4_takes : MD := (yX4_takes, cX4_takes, 3, (Option.some .boolean), 7, noEH)
abbrev mX4_is : MD := (yX4_is, cX4_is, 4, (Option.some .boolean), 6, noEH)
abbrev mX4_errs : MD := (yX4_errs, cX4_errs, 2, (Option.none : Option FieldType), 2, noEH)
abbrev mX4_told : MD := (yX4_told, cX4_told, 4, (Option.some .int), 9, noEH)
abbrev mX4_number : MD := (yX4_number, cX4_number, 4, (Option.some .int), 3, noEH)
abbrev mX4_readNext : MD := (yX4_readNext, cX4_readNext, 4, (Option.none : Option FieldType), 11, noEH)
abbrev mX4_latest : MD := (yX4_latest, cX4_latest, 1, (Option.some .int), 1, noEH)
abbrev mX4_readCell : MD := (yX4_readCell, cX4_readCell, 4, (Option.none : Option FieldType), 9, noEH)
abbrev mX4_isTaken : MD := (yX4_isTaken, cX4_isTaken, 5, (Option.some .boolean), 1, noEH)
abbrev mX4_readClock : MD := (yX4_readClock, cX4_readClock, 6, (Option.none : Option FieldType), 10, noEH)
abbrev mX4_readPerson : MD := (yX4_readPerson, cX4_readPerson, 3, (Option.none : Option FieldType), 10, noEH)
abbrev mX4_readMove : MD := (yX4_readMove, cX4_readMove, 5, (Option.none : Option FieldType), 7, noEH)
abbrev mX4_readLook : MD := (yX4_readLook, cX4_readLook, 3, (Option.none : Option FieldType), 10, noEH)
abbrev mX4_freshClock : MD := (yX4_freshClock, cX4_freshClock, 1, (Option.some .int), 4, noEH)
abbrev mX4_at : MD := (yX4_at, cX4_at, 3, (Option.some .int), 4, noEH)
abbrev mX4_isPerson : MD := (yX4_isPerson, cX4_isPerson, 2, (Option.some .boolean), 2, noEH)
abbrev mX4_isMinute : MD := (yX4_isMinute, cX4_isMinute, 2, (Option.some .boolean), 2, noEH)
abbrev mX4_fillSpots : MD := (yX4_fillSpots, cX4_fillSpots, 11, (Option.none : Option FieldType), 3, noEH)
abbrev mX4_setSpot : MD := (yX4_setSpot, cX4_setSpot, 5, (Option.none : Option FieldType), 1, noEH)
abbrev mX4_of : MD := (yX4_of, cX4_of, 3, (Option.some .int), 1, noEH)
abbrev mX4_isFree : MD := (yX4_isFree, cX4_isFree, 3, (Option.some .boolean), 2, noEH)
abbrev mX4_isThere : MD := (yX4_isThere, cX4_isThere, 3, (Option.some .boolean), 1, noEH)
abbrev mX4_sees : MD := (yX4_sees, cX4_sees, 4, (Option.some .int), 4, noEH)
abbrev mX4_isClock : MD := (yX4_isClock, cX4_isClock, 2, (Option.some .boolean), 2, noEH)
abbrev mX4_seesFrom : MD := (yX4_seesFrom, cX4_seesFrom, 8, (Option.some .boolean), 2, noEH)
abbrev mX4_ofClock : MD := (yX4_ofClock, cX4_ofClock, 3, (Option.some .int), 1, noEH)
abbrev mX4_sign : MD := (yX4_sign, cX4_sign, 1, (Option.some .int), 1, noEH)
abbrev mX4_looks : MD := (yX4_looks, cX4_looks, 4, (Option.some .int), 10, noEH)
abbrev mX4_plain : MD := (yX4_plain, cX4_plain, 1, (Option.none : Option FieldType), 9, noEH)
abbrev mX4_keepsNone : MD := (yX4_keepsNone, cX4_keepsNone, 2, (Option.none : Option FieldType), 1, noEH)
abbrev mX4_runs : MD := (yX4_runs, cX4_runs, 2, (Option.none : Option FieldType), 8, noEH)
abbrev mX4_fillAllSpots : MD := (yX4_fillAllSpots, cX4_fillAllSpots, 2, (Option.none : Option FieldType), 4, noEH)
abbrev mX4_goes : MD := (yX4_goes, cX4_goes, 4, (Option.none : Option FieldType), 7, noEH)
abbrev mX4_looksIn : MD := (yX4_looksIn, cX4_looksIn, 5, (Option.none : Option FieldType), 6, noEH)
abbrev mX4_fillSeeing : MD := (yX4_fillSeeing, cX4_fillSeeing, 4, (Option.none : Option FieldType), 3, noEH)
abbrev mX4_drawsMaybes : MD := (yX4_drawsMaybes, cX4_drawsMaybes, 4, (Option.none : Option FieldType), 3, noEH)
abbrev mX4_lookOf : MD := (yX4_lookOf, cX4_lookOf, 4, (Option.some .int), 2, noEH)
abbrev mX4_draw : MD := (yX4_draw, cX4_draw, 1, (Option.some .int), 1, noEH)
abbrev mX4_settles : MD := (yX4_settles, cX4_settles, 5, (Option.none : Option FieldType), 5, noEH)
abbrev mX4_settled : MD := (yX4_settled, cX4_settled, 7, (Option.some .int), 4, noEH)
abbrev mX4_holds : MD := (yX4_holds, cX4_holds, 7, (Option.some .int), 3, noEH)
abbrev mX4_shownAt : MD := (yX4_shownAt, cX4_shownAt, 3, (Option.some .int), 2, noEH)
abbrev mX4_firstUnknown : MD := (yX4_firstUnknown, cX4_firstUnknown, 3, (Option.some .int), 1, noEH)
abbrev mX4_isLooked : MD := (yX4_isLooked, cX4_isLooked, 5, (Option.some .boolean), 1, noEH)
abbrev mX4_eyes : MD := (yX4_eyes, cX4_eyes, 5, (Option.some .int), 10, noEH)
abbrev mX4_shows : MD := (yX4_shows, cX4_shows, 3, (Option.some .int), 10, noEH)
abbrev mX4_isTime : MD := (yX4_isTime, cX4_isTime, 2, (Option.some .boolean), 2, noEH)
abbrev mX4_isSquare : MD := (yX4_isSquare, cX4_isSquare, 1, (Option.some .boolean), 1, noEH)
abbrev mX4_value : MD := (yX4_value, cX4_value, 6, (Option.some .int), 10, noEH)
abbrev mX4_still : MD := (yX4_still, cX4_still, 9, (Option.some .int), 10, noEH)
abbrev mX4_open : MD := (yX4_open, cX4_open, 1, (Option.some .int), 10, noEH)
abbrev mX4_opens : MD := (yX4_opens, cX4_opens, 2, (Option.some .int), 10, noEH)
abbrev mX4_bell : MD := (yX4_bell, cX4_bell, 4, (Option.some .int), 10, noEH)
abbrev mX4_isHour : MD := (yX4_isHour, cX4_isHour, 1, (Option.some .boolean), 2, noEH)
abbrev mX4_manyShow : MD := (yX4_manyShow, cX4_manyShow, 5, (Option.some .int), 3, noEH)
abbrev mX4_courses : MD := (yX4_courses, cX4_courses, 1, (Option.some .int), 10, noEH)
abbrev mX4_fillCourses : MD := (yX4_fillCourses, cX4_fillCourses, 2, (Option.some .boolean), 9, noEH)
abbrev mX4_keepsCourse : MD := (yX4_keepsCourse, cX4_keepsCourse, 3, (Option.none : Option FieldType), 3, noEH)
abbrev mX4_nextTaking : MD := (yX4_nextTaking, cX4_nextTaking, 2, (Option.some .boolean), 1, noEH)
abbrev mX4_among : MD := (yX4_among, cX4_among, 6, (Option.some .int), 10, noEH)
abbrev mX4_shownIn : MD := (yX4_shownIn, cX4_shownIn, 4, (Option.some .int), 1, noEH)
abbrev mX4_agree : MD := (yX4_agree, cX4_agree, 5, (Option.some .int), 11, noEH)
abbrev mX4_asksSightings : MD := (yX4_asksSightings, cX4_asksSightings, 9, (Option.some .int), 10, noEH)
abbrev mX4_isSlot : MD := (yX4_isSlot, cX4_isSlot, 1, (Option.some .boolean), 2, noEH)
abbrev mX4_agrees : MD := (yX4_agrees, cX4_agrees, 6, (Option.some .boolean), 2, noEH)
abbrev mX4_sure : MD := (yX4_sure, cX4_sure, 5, (Option.some .int), 11, noEH)
abbrev mX4_sureBy : MD := (yX4_sureBy, cX4_sureBy, 7, (Option.some .int), 3, noEH)
abbrev mX4_needs_2 : MD := (yX4_needs_2, cX4_needs_2, 7, (Option.some .int), 11, noEH)
abbrev mX4_bits : MD := (yX4_bits, cX4_bits, 3, (Option.some .int), 1, noEH)
abbrev mX4_knows : MD := (yX4_knows, cX4_knows, 5, (Option.some .int), 10, noEH)
abbrev mX4_isAlike : MD := (yX4_isAlike, cX4_isAlike, 4, (Option.some .boolean), 3, noEH)
abbrev mX4_isAlikeTill : MD := (yX4_isAlikeTill, cX4_isAlikeTill, 8, (Option.some .boolean), 2, noEH)
abbrev mX4_commonOf : MD := (yX4_commonOf, cX4_commonOf, 5, (Option.some .int), 2, noEH)
abbrev mX4_common : MD := (yX4_common, cX4_common, 4, (Option.some .int), 10, noEH)
abbrev mX4_spreads : MD := (yX4_spreads, cX4_spreads, 5, (Option.none : Option FieldType), 5, noEH)
abbrev mX4_comesBy : MD := (yX4_comesBy, cX4_comesBy, 5, (Option.some .boolean), 4, noEH)
abbrev mX4_alike : MD := (yX4_alike, cX4_alike, 4, (Option.some .int), 10, noEH)
abbrev mX4_lie : MD := (yX4_lie, cX4_lie, 5, (Option.some .int), 10, noEH)
abbrev mX4_isAsked : MD := (yX4_isAsked, cX4_isAsked, 5, (Option.some .boolean), 3, noEH)
abbrev mX4_shownBy : MD := (yX4_shownBy, cX4_shownBy, 8, (Option.some .int), 4, noEH)
abbrev mX4_shown : MD := (yX4_shown, cX4_shown, 5, (Option.some .int), 10, noEH)
abbrev mX4_both : MD := (yX4_both, cX4_both, 6, (Option.some .int), 10, noEH)
abbrev mX4_areTwo : MD := (yX4_areTwo, cX4_areTwo, 3, (Option.some .boolean), 3, noEH)
abbrev mX4_learns : MD := (yX4_learns, cX4_learns, 6, (Option.some .int), 10, noEH)
abbrev mX4_sights : MD := (yX4_sights, cX4_sights, 6, (Option.some .int), 10, noEH)
abbrev mX4_meets : MD := (yX4_meets, cX4_meets, 7, (Option.some .int), 4, noEH)
abbrev mX4_spots : MD := (yX4_spots, cX4_spots, 5, (Option.some .int), 3, noEH)
abbrev mX4_when : MD := (yX4_when, cX4_when, 4, (Option.some .int), 10, noEH)
abbrev mX4_hours : MD := (yX4_hours, cX4_hours, 6, (Option.some .int), 10, noEH)
abbrev mX4_without : MD := (yX4_without, cX4_without, 5, (Option.some .int), 10, noEH)
abbrev mX4_hush : MD := (yX4_hush, cX4_hush, 8, (Option.some .int), 10, noEH)
abbrev mX4_isBell : MD := (yX4_isBell, cX4_isBell, 5, (Option.some .boolean), 4, noEH)
abbrev mX4_call : MD := (yX4_call, cX4_call, 4, (Option.some .int), 3, noEH)
abbrev mX4_away : MD := (yX4_away, cX4_away, 6, (Option.some .int), 11, noEH)
abbrev mX4_awayOf : MD := (yX4_awayOf, cX4_awayOf, 7, (Option.some .int), 10, noEH)
abbrev mX4_kept : MD := (yX4_kept, cX4_kept, 4, (Option.some .int), 10, noEH)
abbrev mX4_keptAt : MD := (yX4_keptAt, cX4_keptAt, 4, (Option.some .int), 9, noEH)
abbrev mX4_keep : MD := (yX4_keep, cX4_keep, 4, (Option.some .int), 11, noEH)
abbrev mX4_leastKept : MD := (yX4_leastKept, cX4_leastKept, 5, (Option.some .int), 10, noEH)
abbrev mX4_shifts : MD := (yX4_shifts, cX4_shifts, 6, (Option.some .int), 11, noEH)
abbrev mX4_last : MD := (yX4_last, cX4_last, 4, (Option.some .int), 11, noEH)
abbrev mX4_all : MD := (yX4_all, cX4_all, 6, (Option.some .int), 9, noEH)
abbrev mX4_pace : MD := (yX4_pace, cX4_pace, 8, (Option.some .int), 10, noEH)
abbrev mX4_mends : MD := (yX4_mends, cX4_mends, 4, (Option.some .int), 3, noEH)
abbrev mX4_day : MD := (yX4_day, cX4_day, 4, (Option.some .int), 10, noEH)
abbrev mX4_dayOf : MD := (yX4_dayOf, cX4_dayOf, 5, (Option.some .int), 9, noEH)
abbrev mX4_days : MD := (yX4_days, cX4_days, 8, (Option.some .int), 10, noEH)
abbrev mX4_count : MD := (yX4_count, cX4_count, 4, (Option.some .int), 1, noEH)
abbrev mX4_row : MD := (yX4_row, cX4_row, 5, (Option.some .int), 3, noEH)
abbrev mX4_write : MD := (yX4_write, cX4_write, 5, (Option.some .int), 3, noEH)
abbrev mX4_cut : MD := (yX4_cut, cX4_cut, 4, (Option.some .long), 1, noEH)
abbrev mX4_paste : MD := (yX4_paste, cX4_paste, 7, (Option.some .int), 3, noEH)
theorem gX4_in : GoodIn lw_all (va_wsS RX4 104 yX4_in (ws_ yX4_in cX4_in 6 (Option.some .boolean))) := lw_S q1767 q1768 q138 q1769
theorem gX4_advance : GoodIn lw_all (wsV RX4 171 RX4 yX4_advance (ws_ yX4_advance cX4_advance 2 (Option.none : Option FieldType))) := lw_V q1790 q1792 qs63 q138 q1793
theorem gX4_see : GoodIn lw_all (wsV RX4 123 RX4 yX4_see (ws_ yX4_see cX4_see 2 (Option.some .int))) := lw_V q1794 q1796 qs64 q138 q1797
theorem gX4_good : GoodIn lw_all (wsV RX4 154 RX4 yX4_good (ws_ yX4_good cX4_good 1 (Option.some .boolean))) := lw_V q1804 q1806 qs65 q138 q1807
theorem gX4_readLine : GoodIn lw_all (wsV RX4 271 RX4 yX4_readLine (ws_ yX4_readLine cX4_readLine 1 (Option.none : Option FieldType))) := lw_V q1808 q1810 qs66 q138 q1811
theorem gX4_needs : GoodIn lw_all (wsV RX4 181 RX4 yX4_needs (ws_ yX4_needs cX4_needs 2 (Option.none : Option FieldType))) := lw_V q1813 q1815 qs67 q138 q1816
theorem gX4_takes : GoodIn lw_all (wsV RX4 174 RX4 yX4_takes (ws_ yX4_takes cX4_takes 3 (Option.some .boolean))) := lw_V q1817 q1819 qs68 q138 q1820
theorem gX4_is : GoodIn lw_all (wsV RX4 167 RX4 yX4_is (ws_ yX4_is cX4_is 4 (Option.some .boolean))) := lw_V q1821 q1823 qs69 q138 q1824
theorem gX4_errs : GoodIn lw_all (wsV RX4 177 RX4 yX4_errs (ws_ yX4_errs cX4_errs 2 (Option.none : Option FieldType))) := lw_V q1827 q1829 qs70 q138 q1830
theorem gX4_told : GoodIn lw_all (wsV RX4 198 RX4 yX4_told (ws_ yX4_told cX4_told 4 (Option.some .int))) := lw_V q1832 q1834 qs71 q138 q1835
theorem gX4_number : GoodIn lw_all (wsV RX4 185 RX4 yX4_number (ws_ yX4_number cX4_number 4 (Option.some .int))) := lw_V q1836 q1838 qs72 q138 q1839
theorem gX4_readNext : GoodIn lw_all (wsV RX4 268 RX4 yX4_readNext (ws_ yX4_readNext cX4_readNext 4 (Option.none : Option FieldType))) := lw_V q1842 q1844 qs73 q138 q1845
theorem gX4_latest : GoodIn lw_all (wsV RX4 207 RX4 yX4_latest (ws_ yX4_latest cX4_latest 1 (Option.some .int))) := lw_V q1852 q1854 qs74 q138 q1855
theorem gX4_readCell : GoodIn lw_all (wsV RX4 193 RX4 yX4_readCell (ws_ yX4_readCell cX4_readCell 4 (Option.none : Option FieldType))) := lw_V q1856 q1858 qs75 q138 q1859
theorem gX4_isTaken : GoodIn lw_all (va_wsS RX4 189 yX4_isTaken (ws_ yX4_isTaken cX4_isTaken 5 (Option.some .boolean))) := lw_S q1861 q1862 q138 q1863
theorem gX4_readClock : GoodIn lw_all (wsV RX4 247 RX4 yX4_readClock (ws_ yX4_readClock cX4_readClock 6 (Option.none : Option FieldType))) := lw_V q1864 q1866 qs76 q138 q1867
theorem gX4_readPerson : GoodIn lw_all (wsV RX4 250 RX4 yX4_readPerson (ws_ yX4_readPerson cX4_readPerson 3 (Option.none : Option FieldType))) := lw_V q1872 q1874 qs77 q138 q1875
theorem gX4_readMove : GoodIn lw_all (wsV RX4 253 RX4 yX4_readMove (ws_ yX4_readMove cX4_readMove 5 (Option.none : Option FieldType))) := lw_V q1876 q1878 qs78 q138 q1879
theorem gX4_readLook : GoodIn lw_all (wsV RX4 257 RX4 yX4_readLook (ws_ yX4_readLook cX4_readLook 3 (Option.none : Option FieldType))) := lw_V q1884 q1886 qs79 q138 q1887
theorem gX4_freshClock : GoodIn lw_all (wsV RX4 218 RX4 yX4_freshClock (ws_ yX4_freshClock cX4_freshClock 1 (Option.some .int))) := lw_V q1888 q1890 qs80 q138 q1891
theorem gX4_isPerson : GoodIn lw_all (wsV RX4 307 RX4 yX4_isPerson (ws_ yX4_isPerson cX4_isPerson 2 (Option.some .boolean))) := lw_V q1904 q1906 qs81 q138 q1907
theorem gX4_isMinute : GoodIn lw_all (wsV RX4 311 RX4 yX4_isMinute (ws_ yX4_isMinute cX4_isMinute 2 (Option.some .boolean))) := lw_V q1908 q1910 qs82 q138 q1911
theorem gX4_fillSpots : GoodIn lw_all (wsV RX4 304 RX4 yX4_fillSpots (ws_ yX4_fillSpots cX4_fillSpots 11 (Option.none : Option FieldType))) := lw_V q1912 q1914 qs83 q138 q1915
theorem gX4_setSpot : GoodIn lw_all (wsV RX4 274 RX4 yX4_setSpot (ws_ yX4_setSpot cX4_setSpot 5 (Option.none : Option FieldType))) := lw_V q1916 q1918 qs84 q138 q1919
theorem gX4_of : GoodIn lw_all (wsV RX4 278 RX4 yX4_of (ws_ yX4_of cX4_of 3 (Option.some .int))) := lw_V q1920 q1922 qs85 q138 q1923
theorem gX4_isFree : GoodIn lw_all (wsV RX4 281 RX4 yX4_isFree (ws_ yX4_isFree cX4_isFree 3 (Option.some .boolean))) := lw_V q1924 q1926 qs86 q138 q1927
theorem gX4_isThere : GoodIn lw_all (wsV RX4 297 RX4 yX4_isThere (ws_ yX4_isThere cX4_isThere 3 (Option.some .boolean))) := lw_V q1928 q1930 qs87 q138 q1931
theorem gX4_isClock : GoodIn lw_all (wsV RX4 314 RX4 yX4_isClock (ws_ yX4_isClock cX4_isClock 2 (Option.some .boolean))) := lw_V q1936 q1938 qs88 q138 q1939
theorem gX4_seesFrom : GoodIn lw_all (wsV RX4 300 RX4 yX4_seesFrom (ws_ yX4_seesFrom cX4_seesFrom 8 (Option.some .boolean))) := lw_V q1940 q1942 qs89 q138 q1943
theorem gX4_ofClock : GoodIn lw_all (wsV RX4 285 RX4 yX4_ofClock (ws_ yX4_ofClock cX4_ofClock 3 (Option.some .int))) := lw_V q1944 q1946 qs90 q138 q1947
theorem gX4_sign : GoodIn lw_all (va_wsS RX4 294 yX4_sign (ws_ yX4_sign cX4_sign 1 (Option.some .int))) := lw_S q1950 q1951 q138 q1952
theorem gX4_plain : GoodIn lw_all (wsV RX4 387 RX4 yX4_plain (ws_ yX4_plain cX4_plain 1 (Option.none : Option FieldType))) := lw_V q1957 q1959 qs91 q138 q1960
theorem gX4_keepsNone : GoodIn lw_all (wsV RX4 381 RX4 yX4_keepsNone (ws_ yX4_keepsNone cX4_keepsNone 2 (Option.none : Option FieldType))) := lw_V q1961 q1963 qs92 q138 q1964
theorem gX4_runs : GoodIn lw_all (wsV RX4 384 RX4 yX4_runs (ws_ yX4_runs cX4_runs 2 (Option.none : Option FieldType))) := lw_V q1965 q1967 qs93 q138 q1968
theorem gX4_fillAllSpots : GoodIn lw_all (wsV RX4 375 RX4 yX4_fillAllSpots (ws_ yX4_fillAllSpots cX4_fillAllSpots 2 (Option.none : Option FieldType))) := lw_V q1969 q1971 qs94 q138 q1972
theorem gX4_goes : GoodIn lw_all (wsV RX4 378 RX4 yX4_goes (ws_ yX4_goes cX4_goes 4 (Option.none : Option FieldType))) := lw_V q1973 q1975 qs95 q138 q1976
theorem gX4_looksIn : GoodIn lw_all (wsV RX4 369 RX4 yX4_looksIn (ws_ yX4_looksIn cX4_looksIn 5 (Option.none : Option FieldType))) := lw_V q1977 q1979 qs96 q138 q1980
theorem gX4_fillSeeing : GoodIn lw_all (wsV RX4 351 RX4 yX4_fillSeeing (ws_ yX4_fillSeeing cX4_fillSeeing 4 (Option.none : Option FieldType))) := lw_V q1981 q1983 qs97 q138 q1984
theorem gX4_drawsMaybes : GoodIn lw_all (wsV RX4 354 RX4 yX4_drawsMaybes (ws_ yX4_drawsMaybes cX4_drawsMaybes 4 (Option.none : Option FieldType))) := lw_V q1985 q1987 qs98 q138 q1988
theorem gX4_lookOf : GoodIn lw_all (wsV RX4 335 RX4 yX4_lookOf (ws_ yX4_lookOf cX4_lookOf 4 (Option.some .int))) := lw_V q1989 q1991 qs99 q138 q1992
theorem gX4_draw : GoodIn lw_all (wsV RX4 339 RX4 yX4_draw (ws_ yX4_draw cX4_draw 1 (Option.some .int))) := lw_V q1993 q1995 qs100 q138 q1996
theorem gX4_settles : GoodIn lw_all (wsV RX4 357 RX4 yX4_settles (ws_ yX4_settles cX4_settles 5 (Option.none : Option FieldType))) := lw_V q2002 q2004 qs101 q138 q2005
theorem gX4_settled : GoodIn lw_all (wsV RX4 348 RX4 yX4_settled (ws_ yX4_settled cX4_settled 7 (Option.some .int))) := lw_V q2006 q2008 qs102 q138 q2009
theorem gX4_holds : GoodIn lw_all (wsV RX4 345 RX4 yX4_holds (ws_ yX4_holds cX4_holds 7 (Option.some .int))) := lw_V q2010 q2012 qs103 q138 q2013
theorem gX4_shownAt : GoodIn lw_all (wsV RX4 342 RX4 yX4_shownAt (ws_ yX4_shownAt cX4_shownAt 3 (Option.some .int))) := lw_V q2014 q2016 qs104 q138 q2017
theorem gX4_firstUnknown : GoodIn lw_all (wsV RX4 360 RX4 yX4_firstUnknown (ws_ yX4_firstUnknown cX4_firstUnknown 3 (Option.some .int))) := lw_V q2018 q2020 qs105 q138 q2021
theorem gX4_isLooked : GoodIn lw_all (wsV RX4 372 RX4 yX4_isLooked (ws_ yX4_isLooked cX4_isLooked 5 (Option.some .boolean))) := lw_V q2022 q2024 qs106 q138 q2025
theorem gX4_isTime : GoodIn lw_all (wsV RX4 390 RX4 yX4_isTime (ws_ yX4_isTime cX4_isTime 2 (Option.some .boolean))) := lw_V q2034 q2036 qs107 q138 q2037
theorem gX4_isSquare : GoodIn lw_all (wsV RX4 108 RX4 yX4_isSquare (ws_ yX4_isSquare cX4_isSquare 1 (Option.some .boolean))) := lw_V q2038 q2040 qs108 q138 q2041
theorem gX4_isHour : GoodIn lw_all (va_wsS RX4 395 yX4_isHour (ws_ yX4_isHour cX4_isHour 1 (Option.some .boolean))) := lw_S q2063 q2064 q138 q2065
theorem gX4_manyShow : GoodIn lw_all (wsV RX4 398 RX4 yX4_manyShow (ws_ yX4_manyShow cX4_manyShow 5 (Option.some .int))) := lw_V q2067 q2069 qs109 q138 q2070
theorem gX4_fillCourses : GoodIn lw_all (wsV RX4 410 RX4 yX4_fillCourses (ws_ yX4_fillCourses cX4_fillCourses 2 (Option.some .boolean))) := lw_V q2075 q2077 qs110 q138 q2078
theorem gX4_keepsCourse : GoodIn lw_all (wsV RX4 404 RX4 yX4_keepsCourse (ws_ yX4_keepsCourse cX4_keepsCourse 3 (Option.none : Option FieldType))) := lw_V q2079 q2081 qs111 q138 q2082
theorem gX4_nextTaking : GoodIn lw_all (wsV RX4 407 RX4 yX4_nextTaking (ws_ yX4_nextTaking cX4_nextTaking 2 (Option.some .boolean))) := lw_V q2083 q2085 qs112 q138 q2086
theorem gX4_shownIn : GoodIn lw_all (wsV RX4 413 RX4 yX4_shownIn (ws_ yX4_shownIn cX4_shownIn 4 (Option.some .int))) := lw_V q2091 q2093 qs113 q138 q2094
theorem gX4_asksSightings : GoodIn lw_all (wsV RX4 422 RX4 yX4_asksSightings (ws_ yX4_asksSightings cX4_asksSightings 9 (Option.some .int))) := lw_V q2099 q2101 qs114 q138 q2102
theorem gX4_isSlot : GoodIn lw_all (va_wsS RX4 416 yX4_isSlot (ws_ yX4_isSlot cX4_isSlot 1 (Option.some .boolean))) := lw_S q2103 q2104 q138 q2105
theorem gX4_agrees : GoodIn lw_all (wsV RX4 419 RX4 yX4_agrees (ws_ yX4_agrees cX4_agrees 6 (Option.some .boolean))) := lw_V q2107 q2109 qs115 q138 q2110
theorem gX4_sureBy : GoodIn lw_all (wsV RX4 426 RX4 yX4_sureBy (ws_ yX4_sureBy cX4_sureBy 7 (Option.some .int))) := lw_V q2115 q2117 qs116 q138 q2118
theorem gX4_bits : GoodIn lw_all (va_wsS RX4 430 yX4_bits (ws_ yX4_bits cX4_bits 3 (Option.some .int))) := lw_S q2123 q2124 q138 q2125
theorem gX4_isAlike : GoodIn lw_all (wsV RX4 437 RX4 yX4_isAlike (ws_ yX4_isAlike cX4_isAlike 4 (Option.some .boolean))) := lw_V q2130 q2132 qs117 q138 q2133
theorem gX4_isAlikeTill : GoodIn lw_all (wsV RX4 433 RX4 yX4_isAlikeTill (ws_ yX4_isAlikeTill cX4_isAlikeTill 8 (Option.some .boolean))) := lw_V q2134 q2136 qs118 q138 q2137
theorem gX4_commonOf : GoodIn lw_all (wsV RX4 440 RX4 yX4_commonOf (ws_ yX4_commonOf cX4_commonOf 5 (Option.some .int))) := lw_V q2138 q2140 qs119 q138 q2141
theorem gX4_spreads : GoodIn lw_all (wsV RX4 446 RX4 yX4_spreads (ws_ yX4_spreads cX4_spreads 5 (Option.none : Option FieldType))) := lw_V q2146 q2148 qs120 q138 q2149
theorem gX4_comesBy : GoodIn lw_all (wsV RX4 443 RX4 yX4_comesBy (ws_ yX4_comesBy cX4_comesBy 5 (Option.some .boolean))) := lw_V q2150 q2152 qs121 q138 q2153
theorem gX4_isAsked : GoodIn lw_all (wsV RX4 449 RX4 yX4_isAsked (ws_ yX4_isAsked cX4_isAsked 5 (Option.some .boolean))) := lw_V q2162 q2164 qs122 q138 q2165
theorem gX4_shownBy : GoodIn lw_all (wsV RX4 452 RX4 yX4_shownBy (ws_ yX4_shownBy cX4_shownBy 8 (Option.some .int))) := lw_V q2166 q2168 qs123 q138 q2169
theorem gX4_areTwo : GoodIn lw_all (wsV RX4 455 RX4 yX4_areTwo (ws_ yX4_areTwo cX4_areTwo 3 (Option.some .boolean))) := lw_V q2178 q2180 qs124 q138 q2181
theorem gX4_isBell : GoodIn lw_all (wsV RX4 458 RX4 yX4_isBell (ws_ yX4_isBell cX4_isBell 5 (Option.some .boolean))) := lw_V q2214 q2216 qs125 q138 q2217
theorem gX4_awayOf : GoodIn lw_all (wsV RX4 461 RX4 yX4_awayOf (ws_ yX4_awayOf cX4_awayOf 7 (Option.some .int))) := lw_V q2226 q2228 qs126 q138 q2229
theorem gX4_keptAt : GoodIn lw_all (wsV RX4 466 RX4 yX4_keptAt (ws_ yX4_keptAt cX4_keptAt 4 (Option.some .int))) := lw_V q2235 q2237 qs127 q138 q2238
theorem gX4_leastKept : GoodIn lw_all (wsV RX4 469 RX4 yX4_leastKept (ws_ yX4_leastKept cX4_leastKept 5 (Option.some .int))) := lw_V q2243 q2245 qs128 q138 q2246
theorem gX4_dayOf : GoodIn lw_all (wsV RX4 476 RX4 yX4_dayOf (ws_ yX4_dayOf cX4_dayOf 5 (Option.some .int))) := lw_V q2273 q2275 qs129 q138 q2276
theorem gX4_cut : GoodIn lw_all (va_wsS RX4 484 yX4_cut (ws_ yX4_cut cX4_cut 4 (Option.some .long))) := lw_S q2294 q2295 q138 q2296
def TC_V (M : MD) (F : Tau → Prop × Option Value × Tau) : Prop := ∀ (X : Cx)  (x : Tau) (P : Prop) (r : Option Value) (y : Tau), F  x = (P, r, y) → P → ∀ h, TP X x h → Cg X M 0 0 [.ref x.o] h (fun o h' => o = .returned r ∧ TP X y h')
def tC_V (F : Tau → Prop × Option Value × Tau) : OPS Tau := .inr (fun s => match s with
  | (L, .ref a :: st, x) => match wt8 st with
    | true => match F  x with
      | (P, some v, y) => some (a = x.o ∧ P, L, v :: st, y)
      | (P, none, y) => some (a = x.o ∧ P, L, st, y)
    | false => none
  | _ => none)
theorem tc_V {M M' : MD} {pc idx : Nat} {F : Tau → Prop × Option Value × Tau} (hM : TC_V M' F) (hG : GoodIn lw_all (wsV M.y.cls idx RX4 M'.y (ws_ M'.y M'.cc M'.nL M'.ret))) (hy : M'.y.cls = RX4 ∧ M'.y.cls ≠ "java/lang/invoke/MethodHandle" ∧ M'.y.cls ≠ "java/lang/invoke/VarHandle" ∧ (parseMethodDescriptor M'.y.desc).map (fun d => d.parameters.length) = some 0) (hR : M'.lv + 1 ≤ M.lv ∧ M'.nL ≤ 421) (hd : decode M.cc pc = .ok (.invokevirtual idx, 3)) : JStp TP M pc (pc + 3) (tC_V F) := by
  intro X R Z k m L st x cnd L' st' x' hf hc kk h hp
  dsimp only at hf
  split at hf
  · rename_i L2 a st2 x2 heq
    cases heq
    split at hf
    · rename_i hw
      split at hf
      · rename_i P v y hF
        simp only [Option.some.injEq, Prod.mk.injEq] at hf
        obtain ⟨rfl, rfl, rfl, rfl⟩ := hf
        obtain ⟨e, hc⟩ := hc
        subst e
        intro p e s m2 args below meth c B rk H locs ls hW hS hL
        refine J.callV (As := []) (mc := 0) (ms := 0) (hM X x _ _ _ hF hc h hp) (fun o h' q => ⟨_, q.1⟩) hp.1 rfl hd hG ⟨hy.1, hy.2.1, hy.2.2.1, hy.2.2.2⟩ hR ⟨rk.2.2.1, rk.2.2.2⟩ (Nat.le_of_ble_eq_true hw) (fun v h' q => ?_) p e s m2 args below meth c B rk H locs ls hW hS hL
        obtain ⟨q1, q2⟩ := q
        cases q1
        exact kk h' q2
      · rename_i P y hF
        simp only [Option.some.injEq, Prod.mk.injEq] at hf
        obtain ⟨rfl, rfl, rfl, rfl⟩ := hf
        obtain ⟨e, hc⟩ := hc
        subst e
        intro p e s m2 args below meth c B rk H locs ls hW hS hL
        refine J.callV (As := []) (mc := 0) (ms := 0) (hM X x _ _ _ hF hc h hp) (fun o h' q => ⟨_, q.1⟩) hp.1 rfl hd hG ⟨hy.1, hy.2.1, hy.2.2.1, hy.2.2.2⟩ hR ⟨rk.2.2.1, rk.2.2.2⟩ (Nat.le_of_ble_eq_true hw) (fun v h' q => ?_) p e s m2 args below meth c B rk H locs ls hW hS hL
        obtain ⟨q1, q2⟩ := q
        cases q1
        exact kk h' q2
    · cases hf
  · cases hf
def TC_I (M : MD) (F : Int32 → Tau → Prop × Option Value × Tau) : Prop := ∀ (X : Cx) (a1 : Int32) (x : Tau) (P : Prop) (r : Option Value) (y : Tau), F a1 x = (P, r, y) → P → ∀ h, TP X x h → Cg X M 0 0 [.ref x.o, .int a1] h (fun o h' => o = .returned r ∧ TP X y h')
def tC_I (F : Int32 → Tau → Prop × Option Value × Tau) : OPS Tau := .inr (fun s => match s with
  | (L, .int a1 :: .ref a :: st, x) => match wt8 st with
    | true => match F a1 x with
      | (P, some v, y) => some (a = x.o ∧ P, L, v :: st, y)
      | (P, none, y) => some (a = x.o ∧ P, L, st, y)
    | false => none
  | _ => none)
theorem tc_I {M M' : MD} {pc idx : Nat} {F : Int32 → Tau → Prop × Option Value × Tau} (hM : TC_I M' F) (hG : GoodIn lw_all (wsV M.y.cls idx RX4 M'.y (ws_ M'.y M'.cc M'.nL M'.ret))) (hy : M'.y.cls = RX4 ∧ M'.y.cls ≠ "java/lang/invoke/MethodHandle" ∧ M'.y.cls ≠ "java/lang/invoke/VarHandle" ∧ (parseMethodDescriptor M'.y.desc).map (fun d => d.parameters.length) = some 1) (hR : M'.lv + 1 ≤ M.lv ∧ M'.nL ≤ 421) (hd : decode M.cc pc = .ok (.invokevirtual idx, 3)) : JStp TP M pc (pc + 3) (tC_I F) := by
  intro X R Z k m L st x cnd L' st' x' hf hc kk h hp
  dsimp only at hf
  split at hf
  · rename_i L2 a1 a st2 x2 heq
    cases heq
    split at hf
    · rename_i hw
      split at hf
      · rename_i P v y hF
        simp only [Option.some.injEq, Prod.mk.injEq] at hf
        obtain ⟨rfl, rfl, rfl, rfl⟩ := hf
        obtain ⟨e, hc⟩ := hc
        subst e
        intro p e s m2 args below meth c B rk H locs ls hW hS hL
        refine J.callV (As := [.int a1]) (mc := 0) (ms := 0) (hM X _ x _ _ _ hF hc h hp) (fun o h' q => ⟨_, q.1⟩) hp.1 rfl hd hG ⟨hy.1, hy.2.1, hy.2.2.1, hy.2.2.2⟩ hR ⟨rk.2.2.1, rk.2.2.2⟩ (Nat.le_of_ble_eq_true hw) (fun v h' q => ?_) p e s m2 args below meth c B rk H locs ls hW hS hL
        obtain ⟨q1, q2⟩ := q
        cases q1
        exact kk h' q2
      · rename_i P y hF
        simp only [Option.some.injEq, Prod.mk.injEq] at hf
        obtain ⟨rfl, rfl, rfl, rfl⟩ := hf
        obtain ⟨e, hc⟩ := hc
        subst e
        intro p e s m2 args below meth c B rk H locs ls hW hS hL
        refine J.callV (As := [.int a1]) (mc := 0) (ms := 0) (hM X _ x _ _ _ hF hc h hp) (fun o h' q => ⟨_, q.1⟩) hp.1 rfl hd hG ⟨hy.1, hy.2.1, hy.2.2.1, hy.2.2.2⟩ hR ⟨rk.2.2.1, rk.2.2.2⟩ (Nat.le_of_ble_eq_true hw) (fun v h' q => ?_) p e s m2 args below meth c B rk H locs ls hW hS hL
        obtain ⟨q1, q2⟩ := q
        cases q1
        exact kk h' q2
    · cases hf
  · cases hf
def TC_II (M : MD) (F : Int32 → Int32 → Tau → Prop × Option Value × Tau) : Prop := ∀ (X : Cx) (a1 : Int32) (a2 : Int32) (x : Tau) (P : Prop) (r : Option Value) (y : Tau), F a1 a2 x = (P, r, y) → P → ∀ h, TP X x h → Cg X M 0 0 [.ref x.o, .int a1, .int a2] h (fun o h' => o = .returned r ∧ TP X y h')
def tC_II (F : Int32 → Int32 → Tau → Prop × Option Value × Tau) : OPS Tau := .inr (fun s => match s with
  | (L, .int a2 :: .int a1 :: .ref a :: st, x) => match wt8 st with
    | true => match F a1 a2 x with
      | (P, some v, y) => some (a = x.o ∧ P, L, v :: st, y)
      | (P, none, y) => some (a = x.o ∧ P, L, st, y)
    | false => none
  | _ => none)
theorem tc_II {M M' : MD} {pc idx : Nat} {F : Int32 → Int32 → Tau → Prop × Option Value × Tau} (hM : TC_II M' F) (hG : GoodIn lw_all (wsV M.y.cls idx RX4 M'.y (ws_ M'.y M'.cc M'.nL M'.ret))) (hy : M'.y.cls = RX4 ∧ M'.y.cls ≠ "java/lang/invoke/MethodHandle" ∧ M'.y.cls ≠ "java/lang/invoke/VarHandle" ∧ (parseMethodDescriptor M'.y.desc).map (fun d => d.parameters.length) = some 2) (hR : M'.lv + 1 ≤ M.lv ∧ M'.nL ≤ 421) (hd : decode M.cc pc = .ok (.invokevirtual idx, 3)) : JStp TP M pc (pc + 3) (tC_II F) := by
  intro X R Z k m L st x cnd L' st' x' hf hc kk h hp
  dsimp only at hf
  split at hf
  · rename_i L2 a2 a1 a st2 x2 heq
    cases heq
    split at hf
    · rename_i hw
      split at hf
      · rename_i P v y hF
        simp only [Option.some.injEq, Prod.mk.injEq] at hf
        obtain ⟨rfl, rfl, rfl, rfl⟩ := hf
        obtain ⟨e, hc⟩ := hc
        subst e
        intro p e s m2 args below meth c B rk H locs ls hW hS hL
        refine J.callV (As := [.int a1, .int a2]) (mc := 0) (ms := 0) (hM X _ _ x _ _ _ hF hc h hp) (fun o h' q => ⟨_, q.1⟩) hp.1 rfl hd hG ⟨hy.1, hy.2.1, hy.2.2.1, hy.2.2.2⟩ hR ⟨rk.2.2.1, rk.2.2.2⟩ (Nat.le_of_ble_eq_true hw) (fun v h' q => ?_) p e s m2 args below meth c B rk H locs ls hW hS hL
        obtain ⟨q1, q2⟩ := q
        cases q1
        exact kk h' q2
      · rename_i P y hF
        simp only [Option.some.injEq, Prod.mk.injEq] at hf
        obtain ⟨rfl, rfl, rfl, rfl⟩ := hf
        obtain ⟨e, hc⟩ := hc
        subst e
        intro p e s m2 args below meth c B rk H locs ls hW hS hL
        refine J.callV (As := [.int a1, .int a2]) (mc := 0) (ms := 0) (hM X _ _ x _ _ _ hF hc h hp) (fun o h' q => ⟨_, q.1⟩) hp.1 rfl hd hG ⟨hy.1, hy.2.1, hy.2.2.1, hy.2.2.2⟩ hR ⟨rk.2.2.1, rk.2.2.2⟩ (Nat.le_of_ble_eq_true hw) (fun v h' q => ?_) p e s m2 args below meth c B rk H locs ls hW hS hL
        obtain ⟨q1, q2⟩ := q
        cases q1
        exact kk h' q2
    · cases hf
  · cases hf
def TC_III (M : MD) (F : Int32 → Int32 → Int32 → Tau → Prop × Option Value × Tau) : Prop := ∀ (X : Cx) (a1 : Int32) (a2 : Int32) (a3 : Int32) (x : Tau) (P : Prop) (r : Option Value) (y : Tau), F a1 a2 a3 x = (P, r, y) → P → ∀ h, TP X x h → Cg X M 0 0 [.ref x.o, .int a1, .int a2, .int a3] h (fun o h' => o = .returned r ∧ TP X y h')
def tC_III (F : Int32 → Int32 → Int32 → Tau → Prop × Option Value × Tau) : OPS Tau := .inr (fun s => match s with
  | (L, .int a3 :: .int a2 :: .int a1 :: .ref a :: st, x) => match wt8 st with
    | true => match F a1 a2 a3 x with
      | (P, some v, y) => some (a = x.o ∧ P, L, v :: st, y)
      | (P, none, y) => some (a = x.o ∧ P, L, st, y)
    | false => none
  | _ => none)
theorem tc_III {M M' : MD} {pc idx : Nat} {F : Int32 → Int32 → Int32 → Tau → Prop × Option Value × Tau} (hM : TC_III M' F) (hG : GoodIn lw_all (wsV M.y.cls idx RX4 M'.y (ws_ M'.y M'.cc M'.nL M'.ret))) (hy : M'.y.cls = RX4 ∧ M'.y.cls ≠ "java/lang/invoke/MethodHandle" ∧ M'.y.cls ≠ "java/lang/invoke/VarHandle" ∧ (parseMethodDescriptor M'.y.desc).map (fun d => d.parameters.length) = some 3) (hR : M'.lv + 1 ≤ M.lv ∧ M'.nL ≤ 421) (hd : decode M.cc pc = .ok (.invokevirtual idx, 3)) : JStp TP M pc (pc + 3) (tC_III F) := by
  intro X R Z k m L st x cnd L' st' x' hf hc kk h hp
  dsimp only at hf
  split at hf
  · rename_i L2 a3 a2 a1 a st2 x2 heq
    cases heq
    split at hf
    · rename_i hw
      split at hf
      · rename_i P v y hF
        simp only [Option.some.injEq, Prod.mk.injEq] at hf
        obtain ⟨rfl, rfl, rfl, rfl⟩ := hf
        obtain ⟨e, hc⟩ := hc
        subst e
        intro p e s m2 args below meth c B rk H locs ls hW hS hL
        refine J.callV (As := [.int a1, .int a2, .int a3]) (mc := 0) (ms := 0) (hM X _ _ _ x _ _ _ hF hc h hp) (fun o h' q => ⟨_, q.1⟩) hp.1 rfl hd hG ⟨hy.1, hy.2.1, hy.2.2.1, hy.2.2.2⟩ hR ⟨rk.2.2.1, rk.2.2.2⟩ (Nat.le_of_ble_eq_true hw) (fun v h' q => ?_) p e s m2 args below meth c B rk H locs ls hW hS hL
        obtain ⟨q1, q2⟩ := q
        cases q1
        exact kk h' q2
      · rename_i P y hF
        simp only [Option.some.injEq, Prod.mk.injEq] at hf
        obtain ⟨rfl, rfl, rfl, rfl⟩ := hf
        obtain ⟨e, hc⟩ := hc
        subst e
        intro p e s m2 args below meth c B rk H locs ls hW hS hL
        refine J.callV (As := [.int a1, .int a2, .int a3]) (mc := 0) (ms := 0) (hM X _ _ _ x _ _ _ hF hc h hp) (fun o h' q => ⟨_, q.1⟩) hp.1 rfl hd hG ⟨hy.1, hy.2.1, hy.2.2.1, hy.2.2.2⟩ hR ⟨rk.2.2.1, rk.2.2.2⟩ (Nat.le_of_ble_eq_true hw) (fun v h' q => ?_) p e s m2 args below meth c B rk H locs ls hW hS hL
        obtain ⟨q1, q2⟩ := q
        cases q1
        exact kk h' q2
    · cases hf
  · cases hf
def TC_IIII (M : MD) (F : Int32 → Int32 → Int32 → Int32 → Tau → Prop × Option Value × Tau) : Prop := ∀ (X : Cx) (a1 : Int32) (a2 : Int32) (a3 : Int32) (a4 : Int32) (x : Tau) (P : Prop) (r : Option Value) (y : Tau), F a1 a2 a3 a4 x = (P, r, y) → P → ∀ h, TP X x h → Cg X M 0 0 [.ref x.o, .int a1, .int a2, .int a3, .int a4] h (fun o h' => o = .returned r ∧ TP X y h')
def tC_IIII (F : Int32 → Int32 → Int32 → Int32 → Tau → Prop × Option Value × Tau) : OPS Tau := .inr (fun s => match s with
  | (L, .int a4 :: .int a3 :: .int a2 :: .int a1 :: .ref a :: st, x) => match wt8 st with
    | true => match F a1 a2 a3 a4 x with
      | (P, some v, y) => some (a = x.o ∧ P, L, v :: st, y)
      | (P, none, y) => some (a = x.o ∧ P, L, st, y)
    | false => none
  | _ => none)
theorem tc_IIII {M M' : MD} {pc idx : Nat} {F : Int32 → Int32 → Int32 → Int32 → Tau → Prop × Option Value × Tau} (hM : TC_IIII M' F) (hG : GoodIn lw_all (wsV M.y.cls idx RX4 M'.y (ws_ M'.y M'.cc M'.nL M'.ret))) (hy : M'.y.cls = RX4 ∧ M'.y.cls ≠ "java/lang/invoke/MethodHandle" ∧ M'.y.cls ≠ "java/lang/invoke/VarHandle" ∧ (parseMethodDescriptor M'.y.desc).map (fun d => d.parameters.length) = some 4) (hR : M'.lv + 1 ≤ M.lv ∧ M'.nL ≤ 421) (hd : decode M.cc pc = .ok (.invokevirtual idx, 3)) : JStp TP M pc (pc + 3) (tC_IIII F) := by
  intro X R Z k m L st x cnd L' st' x' hf hc kk h hp
  dsimp only at hf
  split at hf
  · rename_i L2 a4 a3 a2 a1 a st2 x2 heq
    cases heq
    split at hf
    · rename_i hw
      split at hf
      · rename_i P v y hF
        simp only [Option.some.injEq, Prod.mk.injEq] at hf
        obtain ⟨rfl, rfl, rfl, rfl⟩ := hf
        obtain ⟨e, hc⟩ := hc
        subst e
        intro p e s m2 args below meth c B rk H locs ls hW hS hL
        refine J.callV (As := [.int a1, .int a2, .int a3, .int a4]) (mc := 0) (ms := 0) (hM X _ _ _ _ x _ _ _ hF hc h hp) (fun o h' q => ⟨_, q.1⟩) hp.1 rfl hd hG ⟨hy.1, hy.2.1, hy.2.2.1, hy.2.2.2⟩ hR ⟨rk.2.2.1, rk.2.2.2⟩ (Nat.le_of_ble_eq_true hw) (fun v h' q => ?_) p e s m2 args below meth c B rk H locs ls hW hS hL
        obtain ⟨q1, q2⟩ := q
        cases q1
        exact kk h' q2
      · rename_i P y hF
        simp only [Option.some.injEq, Prod.mk.injEq] at hf
        obtain ⟨rfl, rfl, rfl, rfl⟩ := hf
        obtain ⟨e, hc⟩ := hc
        subst e
        intro p e s m2 args below meth c B rk H locs ls hW hS hL
        refine J.callV (As := [.int a1, .int a2, .int a3, .int a4]) (mc := 0) (ms := 0) (hM X _ _ _ _ x _ _ _ hF hc h hp) (fun o h' q => ⟨_, q.1⟩) hp.1 rfl hd hG ⟨hy.1, hy.2.1, hy.2.2.1, hy.2.2.2⟩ hR ⟨rk.2.2.1, rk.2.2.2⟩ (Nat.le_of_ble_eq_true hw) (fun v h' q => ?_) p e s m2 args below meth c B rk H locs ls hW hS hL
        obtain ⟨q1, q2⟩ := q
        cases q1
        exact kk h' q2
    · cases hf
  · cases hf
def TC_IIIII (M : MD) (F : Int32 → Int32 → Int32 → Int32 → Int32 → Tau → Prop × Option Value × Tau) : Prop := ∀ (X : Cx) (a1 : Int32) (a2 : Int32) (a3 : Int32) (a4 : Int32) (a5 : Int32) (x : Tau) (P : Prop) (r : Option Value) (y : Tau), F a1 a2 a3 a4 a5 x = (P, r, y) → P → ∀ h, TP X x h → Cg X M 0 0 [.ref x.o, .int a1, .int a2, .int a3, .int a4, .int a5] h (fun o h' => o = .returned r ∧ TP X y h')
def tC_IIIII (F : Int32 → Int32 → Int32 → Int32 → Int32 → Tau → Prop × Option Value × Tau) : OPS Tau := .inr (fun s => match s with
  | (L, .int a5 :: .int a4 :: .int a3 :: .int a2 :: .int a1 :: .ref a :: st, x) => match wt8 st with
    | true => match F a1 a2 a3 a4 a5 x with
      | (P, some v, y) => some (a = x.o ∧ P, L, v :: st, y)
      | (P, none, y) => some (a = x.o ∧ P, L, st, y)
    | false => none
  | _ => none)
theorem tc_IIIII {M M' : MD} {pc idx : Nat} {F : Int32 → Int32 → Int32 → Int32 → Int32 → Tau → Prop × Option Value × Tau} (hM : TC_IIIII M' F) (hG : GoodIn lw_all (wsV M.y.cls idx RX4 M'.y (ws_ M'.y M'.cc M'.nL M'.ret))) (hy : M'.y.cls = RX4 ∧ M'.y.cls ≠ "java/lang/invoke/MethodHandle" ∧ M'.y.cls ≠ "java/lang/invoke/VarHandle" ∧ (parseMethodDescriptor M'.y.desc).map (fun d => d.parameters.length) = some 5) (hR : M'.lv + 1 ≤ M.lv ∧ M'.nL ≤ 421) (hd : decode M.cc pc = .ok (.invokevirtual idx, 3)) : JStp TP M pc (pc + 3) (tC_IIIII F) := by
  intro X R Z k m L st x cnd L' st' x' hf hc kk h hp
  dsimp only at hf
  split at hf
  · rename_i L2 a5 a4 a3 a2 a1 a st2 x2 heq
    cases heq
    split at hf
    · rename_i hw
      split at hf
      · rename_i P v y hF
        simp only [Option.some.injEq, Prod.mk.injEq] at hf
        obtain ⟨rfl, rfl, rfl, rfl⟩ := hf
        obtain ⟨e, hc⟩ := hc
        subst e
        intro p e s m2 args below meth c B rk H locs ls hW hS hL
        refine J.callV (As := [.int a1, .int a2, .int a3, .int a4, .int a5]) (mc := 0) (ms := 0) (hM X _ _ _ _ _ x _ _ _ hF hc h hp) (fun o h' q => ⟨_, q.1⟩) hp.1 rfl hd hG ⟨hy.1, hy.2.1, hy.2.2.1, hy.2.2.2⟩ hR ⟨rk.2.2.1, rk.2.2.2⟩ (Nat.le_of_ble_eq_true hw) (fun v h' q => ?_) p e s m2 args below meth c B rk H locs ls hW hS hL
        obtain ⟨q1, q2⟩ := q
        cases q1
        exact kk h' q2
      · rename_i P y hF
        simp only [Option.some.injEq, Prod.mk.injEq] at hf
        obtain ⟨rfl, rfl, rfl, rfl⟩ := hf
        obtain ⟨e, hc⟩ := hc
        subst e
        intro p e s m2 args below meth c B rk H locs ls hW hS hL
        refine J.callV (As := [.int a1, .int a2, .int a3, .int a4, .int a5]) (mc := 0) (ms := 0) (hM X _ _ _ _ _ x _ _ _ hF hc h hp) (fun o h' q => ⟨_, q.1⟩) hp.1 rfl hd hG ⟨hy.1, hy.2.1, hy.2.2.1, hy.2.2.2⟩ hR ⟨rk.2.2.1, rk.2.2.2⟩ (Nat.le_of_ble_eq_true hw) (fun v h' q => ?_) p e s m2 args below meth c B rk H locs ls hW hS hL
        obtain ⟨q1, q2⟩ := q
        cases q1
        exact kk h' q2
    · cases hf
  · cases hf
def TC_IIJ (M : MD) (F : Int32 → Int32 → Int64 → Tau → Prop × Option Value × Tau) : Prop := ∀ (X : Cx) (a1 : Int32) (a2 : Int32) (a3 : Int64) (x : Tau) (P : Prop) (r : Option Value) (y : Tau), F a1 a2 a3 x = (P, r, y) → P → ∀ h, TP X x h → Cg X M 0 0 [.ref x.o, .int a1, .int a2, .long a3] h (fun o h' => o = .returned r ∧ TP X y h')
def tC_IIJ (F : Int32 → Int32 → Int64 → Tau → Prop × Option Value × Tau) : OPS Tau := .inr (fun s => match s with
  | (L, .long a3 :: .int a2 :: .int a1 :: .ref a :: st, x) => match wt8 st with
    | true => match F a1 a2 a3 x with
      | (P, some v, y) => some (a = x.o ∧ P, L, v :: st, y)
      | (P, none, y) => some (a = x.o ∧ P, L, st, y)
    | false => none
  | _ => none)
theorem tc_IIJ {M M' : MD} {pc idx : Nat} {F : Int32 → Int32 → Int64 → Tau → Prop × Option Value × Tau} (hM : TC_IIJ M' F) (hG : GoodIn lw_all (wsV M.y.cls idx RX4 M'.y (ws_ M'.y M'.cc M'.nL M'.ret))) (hy : M'.y.cls = RX4 ∧ M'.y.cls ≠ "java/lang/invoke/MethodHandle" ∧ M'.y.cls ≠ "java/lang/invoke/VarHandle" ∧ (parseMethodDescriptor M'.y.desc).map (fun d => d.parameters.length) = some 3) (hR : M'.lv + 1 ≤ M.lv ∧ M'.nL ≤ 421) (hd : decode M.cc pc = .ok (.invokevirtual idx, 3)) : JStp TP M pc (pc + 3) (tC_IIJ F) := by
  intro X R Z k m L st x cnd L' st' x' hf hc kk h hp
  dsimp only at hf
  split at hf
  · rename_i L2 a3 a2 a1 a st2 x2 heq
    cases heq
    split at hf
    · rename_i hw
      split at hf
      · rename_i P v y hF
        simp only [Option.some.injEq, Prod.mk.injEq] at hf
        obtain ⟨rfl, rfl, rfl, rfl⟩ := hf
        obtain ⟨e, hc⟩ := hc
        subst e
        intro p e s m2 args below meth c B rk H locs ls hW hS hL
        refine J.callV (As := [.int a1, .int a2, .long a3]) (mc := 0) (ms := 0) (hM X _ _ _ x _ _ _ hF hc h hp) (fun o h' q => ⟨_, q.1⟩) hp.1 rfl hd hG ⟨hy.1, hy.2.1, hy.2.2.1, hy.2.2.2⟩ hR ⟨rk.2.2.1, rk.2.2.2⟩ (Nat.le_of_ble_eq_true hw) (fun v h' q => ?_) p e s m2 args below meth c B rk H locs ls hW hS hL
        obtain ⟨q1, q2⟩ := q
        cases q1
        exact kk h' q2
      · rename_i P y hF
        simp only [Option.some.injEq, Prod.mk.injEq] at hf
        obtain ⟨rfl, rfl, rfl, rfl⟩ := hf
        obtain ⟨e, hc⟩ := hc
        subst e
        intro p e s m2 args below meth c B rk H locs ls hW hS hL
        refine J.callV (As := [.int a1, .int a2, .long a3]) (mc := 0) (ms := 0) (hM X _ _ _ x _ _ _ hF hc h hp) (fun o h' q => ⟨_, q.1⟩) hp.1 rfl hd hG ⟨hy.1, hy.2.1, hy.2.2.1, hy.2.2.2⟩ hR ⟨rk.2.2.1, rk.2.2.2⟩ (Nat.le_of_ble_eq_true hw) (fun v h' q => ?_) p e s m2 args below meth c B rk H locs ls hW hS hL
        obtain ⟨q1, q2⟩ := q
        cases q1
        exact kk h' q2
    · cases hf
  · cases hf
def TC_JII (M : MD) (F : Int64 → Int32 → Int32 → Tau → Prop × Option Value × Tau) : Prop := ∀ (X : Cx) (a1 : Int64) (a2 : Int32) (a3 : Int32) (x : Tau) (P : Prop) (r : Option Value) (y : Tau), F a1 a2 a3 x = (P, r, y) → P → ∀ h, TP X x h → Cg X M 0 0 [.ref x.o, .long a1, .int a2, .int a3] h (fun o h' => o = .returned r ∧ TP X y h')
def tC_JII (F : Int64 → Int32 → Int32 → Tau → Prop × Option Value × Tau) : OPS Tau := .inr (fun s => match s with
  | (L, .int a3 :: .int a2 :: .long a1 :: .ref a :: st, x) => match wt8 st with
    | true => match F a1 a2 a3 x with
      | (P, some v, y) => some (a = x.o ∧ P, L, v :: st, y)
      | (P, none, y) => some (a = x.o ∧ P, L, st, y)
    | false => none
  | _ => none)
theorem tc_JII {M M' : MD} {pc idx : Nat} {F : Int64 → Int32 → Int32 → Tau → Prop × Option Value × Tau} (hM : TC_JII M' F) (hG : GoodIn lw_all (wsV M.y.cls idx RX4 M'.y (ws_ M'.y M'.cc M'.nL M'.ret))) (hy : M'.y.cls = RX4 ∧ M'.y.cls ≠ "java/lang/invoke/MethodHandle" ∧ M'.y.cls ≠ "java/lang/invoke/VarHandle" ∧ (parseMethodDescriptor M'.y.desc).map (fun d => d.parameters.length) = some 3) (hR : M'.lv + 1 ≤ M.lv ∧ M'.nL ≤ 421) (hd : decode M.cc pc = .ok (.invokevirtual idx, 3)) : JStp TP M pc (pc + 3) (tC_JII F) := by
  intro X R Z k m L st x cnd L' st' x' hf hc kk h hp
  dsimp only at hf
  split at hf
  · rename_i L2 a3 a2 a1 a st2 x2 heq
    cases heq
    split at hf
    · rename_i hw
      split at hf
      · rename_i P v y hF
        simp only [Option.some.injEq, Prod.mk.injEq] at hf
        obtain ⟨rfl, rfl, rfl, rfl⟩ := hf
        obtain ⟨e, hc⟩ := hc
        subst e
        intro p e s m2 args below meth c B rk H locs ls hW hS hL
        refine J.callV (As := [.long a1, .int a2, .int a3]) (mc := 0) (ms := 0) (hM X _ _ _ x _ _ _ hF hc h hp) (fun o h' q => ⟨_, q.1⟩) hp.1 rfl hd hG ⟨hy.1, hy.2.1, hy.2.2.1, hy.2.2.2⟩ hR ⟨rk.2.2.1, rk.2.2.2⟩ (Nat.le_of_ble_eq_true hw) (fun v h' q => ?_) p e s m2 args below meth c B rk H locs ls hW hS hL
        obtain ⟨q1, q2⟩ := q
        cases q1
        exact kk h' q2
      · rename_i P y hF
        simp only [Option.some.injEq, Prod.mk.injEq] at hf
        obtain ⟨rfl, rfl, rfl, rfl⟩ := hf
        obtain ⟨e, hc⟩ := hc
        subst e
        intro p e s m2 args below meth c B rk H locs ls hW hS hL
        refine J.callV (As := [.long a1, .int a2, .int a3]) (mc := 0) (ms := 0) (hM X _ _ _ x _ _ _ hF hc h hp) (fun o h' q => ⟨_, q.1⟩) hp.1 rfl hd hG ⟨hy.1, hy.2.1, hy.2.2.1, hy.2.2.2⟩ hR ⟨rk.2.2.1, rk.2.2.2⟩ (Nat.le_of_ble_eq_true hw) (fun v h' q => ?_) p e s m2 args below meth c B rk H locs ls hW hS hL
        obtain ⟨q1, q2⟩ := q
        cases q1
        exact kk h' q2
    · cases hf
  · cases hf
def TC_R (M : MD) (F : Nat → Tau → Prop × Option Value × Tau) : Prop := ∀ (X : Cx) (a1 : Nat) (x : Tau) (P : Prop) (r : Option Value) (y : Tau), F a1 x = (P, r, y) → P → ∀ h, TP X x h → Cg X M 0 0 [.ref x.o, .ref a1] h (fun o h' => o = .returned r ∧ TP X y h')
def tC_R (F : Nat → Tau → Prop × Option Value × Tau) : OPS Tau := .inr (fun s => match s with
  | (L, .ref a1 :: .ref a :: st, x) => match wt8 st with
    | true => match F a1 x with
      | (P, some v, y) => some (a = x.o ∧ P, L, v :: st, y)
      | (P, none, y) => some (a = x.o ∧ P, L, st, y)
    | false => none
  | _ => none)
theorem tc_R {M M' : MD} {pc idx : Nat} {F : Nat → Tau → Prop × Option Value × Tau} (hM : TC_R M' F) (hG : GoodIn lw_all (wsV M.y.cls idx RX4 M'.y (ws_ M'.y M'.cc M'.nL M'.ret))) (hy : M'.y.cls = RX4 ∧ M'.y.cls ≠ "java/lang/invoke/MethodHandle" ∧ M'.y.cls ≠ "java/lang/invoke/VarHandle" ∧ (parseMethodDescriptor M'.y.desc).map (fun d => d.parameters.length) = some 1) (hR : M'.lv + 1 ≤ M.lv ∧ M'.nL ≤ 421) (hd : decode M.cc pc = .ok (.invokevirtual idx, 3)) : JStp TP M pc (pc + 3) (tC_R F) := by
  intro X R Z k m L st x cnd L' st' x' hf hc kk h hp
  dsimp only at hf
  split at hf
  · rename_i L2 a1 a st2 x2 heq
    cases heq
    split at hf
    · rename_i hw
      split at hf
      · rename_i P v y hF
        simp only [Option.some.injEq, Prod.mk.injEq] at hf
        obtain ⟨rfl, rfl, rfl, rfl⟩ := hf
        obtain ⟨e, hc⟩ := hc
        subst e
        intro p e s m2 args below meth c B rk H locs ls hW hS hL
        refine J.callV (As := [.ref a1]) (mc := 0) (ms := 0) (hM X _ x _ _ _ hF hc h hp) (fun o h' q => ⟨_, q.1⟩) hp.1 rfl hd hG ⟨hy.1, hy.2.1, hy.2.2.1, hy.2.2.2⟩ hR ⟨rk.2.2.1, rk.2.2.2⟩ (Nat.le_of_ble_eq_true hw) (fun v h' q => ?_) p e s m2 args below meth c B rk H locs ls hW hS hL
        obtain ⟨q1, q2⟩ := q
        cases q1
        exact kk h' q2
      · rename_i P y hF
        simp only [Option.some.injEq, Prod.mk.injEq] at hf
        obtain ⟨rfl, rfl, rfl, rfl⟩ := hf
        obtain ⟨e, hc⟩ := hc
        subst e
        intro p e s m2 args below meth c B rk H locs ls hW hS hL
        refine J.callV (As := [.ref a1]) (mc := 0) (ms := 0) (hM X _ x _ _ _ hF hc h hp) (fun o h' q => ⟨_, q.1⟩) hp.1 rfl hd hG ⟨hy.1, hy.2.1, hy.2.2.1, hy.2.2.2⟩ hR ⟨rk.2.2.1, rk.2.2.2⟩ (Nat.le_of_ble_eq_true hw) (fun v h' q => ?_) p e s m2 args below meth c B rk H locs ls hW hS hL
        obtain ⟨q1, q2⟩ := q
        cases q1
        exact kk h' q2
    · cases hf
  · cases hf
def TC_RII (M : MD) (F : Nat → Int32 → Int32 → Tau → Prop × Option Value × Tau) : Prop := ∀ (X : Cx) (a1 : Nat) (a2 : Int32) (a3 : Int32) (x : Tau) (P : Prop) (r : Option Value) (y : Tau), F a1 a2 a3 x = (P, r, y) → P → ∀ h, TP X x h → Cg X M 0 0 [.ref x.o, .ref a1, .int a2, .int a3] h (fun o h' => o = .returned r ∧ TP X y h')
def tC_RII (F : Nat → Int32 → Int32 → Tau → Prop × Option Value × Tau) : OPS Tau := .inr (fun s => match s with
  | (L, .int a3 :: .int a2 :: .ref a1 :: .ref a :: st, x) => match wt8 st with
    | true => match F a1 a2 a3 x with
      | (P, some v, y) => some (a = x.o ∧ P, L, v :: st, y)
      | (P, none, y) => some (a = x.o ∧ P, L, st, y)
    | false => none
  | _ => none)
theorem tc_RII {M M' : MD} {pc idx : Nat} {F : Nat → Int32 → Int32 → Tau → Prop × Option Value × Tau} (hM : TC_RII M' F) (hG : GoodIn lw_all (wsV M.y.cls idx RX4 M'.y (ws_ M'.y M'.cc M'.nL M'.ret))) (hy : M'.y.cls = RX4 ∧ M'.y.cls ≠ "java/lang/invoke/MethodHandle" ∧ M'.y.cls ≠ "java/lang/invoke/VarHandle" ∧ (parseMethodDescriptor M'.y.desc).map (fun d => d.parameters.length) = some 3) (hR : M'.lv + 1 ≤ M.lv ∧ M'.nL ≤ 421) (hd : decode M.cc pc = .ok (.invokevirtual idx, 3)) : JStp TP M pc (pc + 3) (tC_RII F) := by
  intro X R Z k m L st x cnd L' st' x' hf hc kk h hp
  dsimp only at hf
  split at hf
  · rename_i L2 a3 a2 a1 a st2 x2 heq
    cases heq
    split at hf
    · rename_i hw
      split at hf
      · rename_i P v y hF
        simp only [Option.some.injEq, Prod.mk.injEq] at hf
        obtain ⟨rfl, rfl, rfl, rfl⟩ := hf
        obtain ⟨e, hc⟩ := hc
        subst e
        intro p e s m2 args below meth c B rk H locs ls hW hS hL
        refine J.callV (As := [.ref a1, .int a2, .int a3]) (mc := 0) (ms := 0) (hM X _ _ _ x _ _ _ hF hc h hp) (fun o h' q => ⟨_, q.1⟩) hp.1 rfl hd hG ⟨hy.1, hy.2.1, hy.2.2.1, hy.2.2.2⟩ hR ⟨rk.2.2.1, rk.2.2.2⟩ (Nat.le_of_ble_eq_true hw) (fun v h' q => ?_) p e s m2 args below meth c B rk H locs ls hW hS hL
        obtain ⟨q1, q2⟩ := q
        cases q1
        exact kk h' q2
      · rename_i P y hF
        simp only [Option.some.injEq, Prod.mk.injEq] at hf
        obtain ⟨rfl, rfl, rfl, rfl⟩ := hf
        obtain ⟨e, hc⟩ := hc
        subst e
        intro p e s m2 args below meth c B rk H locs ls hW hS hL
        refine J.callV (As := [.ref a1, .int a2, .int a3]) (mc := 0) (ms := 0) (hM X _ _ _ x _ _ _ hF hc h hp) (fun o h' q => ⟨_, q.1⟩) hp.1 rfl hd hG ⟨hy.1, hy.2.1, hy.2.2.1, hy.2.2.2⟩ hR ⟨rk.2.2.1, rk.2.2.2⟩ (Nat.le_of_ble_eq_true hw) (fun v h' q => ?_) p e s m2 args below meth c B rk H locs ls hW hS hL
        obtain ⟨q1, q2⟩ := q
        cases q1
        exact kk h' q2
    · cases hf
  · cases hf
def TS_I (M : MD) (F : Int32 → Tau → Prop × Option Value × Tau) : Prop := ∀ (X : Cx) (a1 : Int32) (x : Tau) (P : Prop) (r : Option Value) (y : Tau), F a1 x = (P, r, y) → P → ∀ h, TP X x h → Cg X M 0 0 [.int a1] h (fun o h' => o = .returned r ∧ TP X y h')
def tS_I (F : Int32 → Tau → Prop × Option Value × Tau) : OPS Tau := .inr (fun s => match s with
  | (L, .int a1 :: st, x) => match wt8 st with
    | true => match F a1 x with
      | (P, some v, y) => some (P, L, v :: st, y)
      | (P, none, y) => some (P, L, st, y)
    | false => none
  | _ => none)
theorem ts_I {M M' : MD} {pc idx : Nat} {F : Int32 → Tau → Prop × Option Value × Tau} (hM : TS_I M' F) (hG : GoodIn lw_all (va_wsS M.y.cls idx M'.y (ws_ M'.y M'.cc M'.nL M'.ret))) (hy : M'.y.cls ≠ "java/lang/invoke/MethodHandle" ∧ M'.y.cls ≠ "java/lang/invoke/VarHandle" ∧ (parseMethodDescriptor M'.y.desc).map (fun d => d.parameters.length) = some 1) (hR : M'.lv + 1 ≤ M.lv ∧ M'.nL ≤ 421) (hd : decode M.cc pc = .ok (.invokestatic idx, 3)) : JStp TP M pc (pc + 3) (tS_I F) := by
  intro X R Z k m L st x cnd L' st' x' hf hc kk h hp
  dsimp only at hf
  split at hf
  · rename_i L2 a1 st2 x2 heq
    cases heq
    split at hf
    · rename_i hw
      split at hf
      · rename_i P v y hF
        simp only [Option.some.injEq, Prod.mk.injEq] at hf
        obtain ⟨rfl, rfl, rfl, rfl⟩ := hf
        intro p e s m2 args below meth c B rk H locs ls hW hS hL
        refine J.callS (As := [.int a1]) (mc := 0) (ms := 0) (hM X _ x _ _ _ hF hc h hp) (fun o h' q => ⟨_, q.1⟩) hd hG ⟨hy.1, hy.2.1, hy.2.2⟩ hR ⟨rk.2.2.1, rk.2.2.2⟩ (Nat.le_of_ble_eq_true hw) (fun v h' q => ?_) p e s m2 args below meth c B rk H locs ls hW hS hL
        obtain ⟨q1, q2⟩ := q
        cases q1
        exact kk h' q2
      · rename_i P y hF
        simp only [Option.some.injEq, Prod.mk.injEq] at hf
        obtain ⟨rfl, rfl, rfl, rfl⟩ := hf
        intro p e s m2 args below meth c B rk H locs ls hW hS hL
        refine J.callS (As := [.int a1]) (mc := 0) (ms := 0) (hM X _ x _ _ _ hF hc h hp) (fun o h' q => ⟨_, q.1⟩) hd hG ⟨hy.1, hy.2.1, hy.2.2⟩ hR ⟨rk.2.2.1, rk.2.2.2⟩ (Nat.le_of_ble_eq_true hw) (fun v h' q => ?_) p e s m2 args below meth c B rk H locs ls hW hS hL
        obtain ⟨q1, q2⟩ := q
        cases q1
        exact kk h' q2
    · cases hf
  · cases hf
def TS_II (M : MD) (F : Int32 → Int32 → Tau → Prop × Option Value × Tau) : Prop := ∀ (X : Cx) (a1 : Int32) (a2 : Int32) (x : Tau) (P : Prop) (r : Option Value) (y : Tau), F a1 a2 x = (P, r, y) → P → ∀ h, TP X x h → Cg X M 0 0 [.int a1, .int a2] h (fun o h' => o = .returned r ∧ TP X y h')
def tS_II (F : Int32 → Int32 → Tau → Prop × Option Value × Tau) : OPS Tau := .inr (fun s => match s with
  | (L, .int a2 :: .int a1 :: st, x) => match wt8 st with
    | true => match F a1 a2 x with
      | (P, some v, y) => some (P, L, v :: st, y)
      | (P, none, y) => some (P, L, st, y)
    | false => none
  | _ => none)
theorem ts_II {M M' : MD} {pc idx : Nat} {F : Int32 → Int32 → Tau → Prop × Option Value × Tau} (hM : TS_II M' F) (hG : GoodIn lw_all (va_wsS M.y.cls idx M'.y (ws_ M'.y M'.cc M'.nL M'.ret))) (hy : M'.y.cls ≠ "java/lang/invoke/MethodHandle" ∧ M'.y.cls ≠ "java/lang/invoke/VarHandle" ∧ (parseMethodDescriptor M'.y.desc).map (fun d => d.parameters.length) = some 2) (hR : M'.lv + 1 ≤ M.lv ∧ M'.nL ≤ 421) (hd : decode M.cc pc = .ok (.invokestatic idx, 3)) : JStp TP M pc (pc + 3) (tS_II F) := by
  intro X R Z k m L st x cnd L' st' x' hf hc kk h hp
  dsimp only at hf
  split at hf
  · rename_i L2 a2 a1 st2 x2 heq
    cases heq
    split at hf
    · rename_i hw
      split at hf
      · rename_i P v y hF
        simp only [Option.some.injEq, Prod.mk.injEq] at hf
        obtain ⟨rfl, rfl, rfl, rfl⟩ := hf
        intro p e s m2 args below meth c B rk H locs ls hW hS hL
        refine J.callS (As := [.int a1, .int a2]) (mc := 0) (ms := 0) (hM X _ _ x _ _ _ hF hc h hp) (fun o h' q => ⟨_, q.1⟩) hd hG ⟨hy.1, hy.2.1, hy.2.2⟩ hR ⟨rk.2.2.1, rk.2.2.2⟩ (Nat.le_of_ble_eq_true hw) (fun v h' q => ?_) p e s m2 args below meth c B rk H locs ls hW hS hL
        obtain ⟨q1, q2⟩ := q
        cases q1
        exact kk h' q2
      · rename_i P y hF
        simp only [Option.some.injEq, Prod.mk.injEq] at hf
        obtain ⟨rfl, rfl, rfl, rfl⟩ := hf
        intro p e s m2 args below meth c B rk H locs ls hW hS hL
        refine J.callS (As := [.int a1, .int a2]) (mc := 0) (ms := 0) (hM X _ _ x _ _ _ hF hc h hp) (fun o h' q => ⟨_, q.1⟩) hd hG ⟨hy.1, hy.2.1, hy.2.2⟩ hR ⟨rk.2.2.1, rk.2.2.2⟩ (Nat.le_of_ble_eq_true hw) (fun v h' q => ?_) p e s m2 args below meth c B rk H locs ls hW hS hL
        obtain ⟨q1, q2⟩ := q
        cases q1
        exact kk h' q2
    · cases hf
  · cases hf
def TS_JI (M : MD) (F : Int64 → Int32 → Tau → Prop × Option Value × Tau) : Prop := ∀ (X : Cx) (a1 : Int64) (a2 : Int32) (x : Tau) (P : Prop) (r : Option Value) (y : Tau), F a1 a2 x = (P, r, y) → P → ∀ h, TP X x h → Cg X M 0 0 [.long a1, .int a2] h (fun o h' => o = .returned r ∧ TP X y h')
def tS_JI (F : Int64 → Int32 → Tau → Prop × Option Value × Tau) : OPS Tau := .inr (fun s => match s with
  | (L, .int a2 :: .long a1 :: st, x) => match wt8 st with
    | true => match F a1 a2 x with
      | (P, some v, y) => some (P, L, v :: st, y)
      | (P, none, y) => some (P, L, st, y)
    | false => none
  | _ => none)
theorem ts_JI {M M' : MD} {pc idx : Nat} {F : Int64 → Int32 → Tau → Prop × Option Value × Tau} (hM : TS_JI M' F) (hG : GoodIn lw_all (va_wsS M.y.cls idx M'.y (ws_ M'.y M'.cc M'.nL M'.ret))) (hy : M'.y.cls ≠ "java/lang/invoke/MethodHandle" ∧ M'.y.cls ≠ "java/lang/invoke/VarHandle" ∧ (parseMethodDescriptor M'.y.desc).map (fun d => d.parameters.length) = some 2) (hR : M'.lv + 1 ≤ M.lv ∧ M'.nL ≤ 421) (hd : decode M.cc pc = .ok (.invokestatic idx, 3)) : JStp TP M pc (pc + 3) (tS_JI F) := by
  intro X R Z k m L st x cnd L' st' x' hf hc kk h hp
  dsimp only at hf
  split at hf
  · rename_i L2 a2 a1 st2 x2 heq
    cases heq
    split at hf
    · rename_i hw
      split at hf
      · rename_i P v y hF
        simp only [Option.some.injEq, Prod.mk.injEq] at hf
        obtain ⟨rfl, rfl, rfl, rfl⟩ := hf
        intro p e s m2 args below meth c B rk H locs ls hW hS hL
        refine J.callS (As := [.long a1, .int a2]) (mc := 0) (ms := 0) (hM X _ _ x _ _ _ hF hc h hp) (fun o h' q => ⟨_, q.1⟩) hd hG ⟨hy.1, hy.2.1, hy.2.2⟩ hR ⟨rk.2.2.1, rk.2.2.2⟩ (Nat.le_of_ble_eq_true hw) (fun v h' q => ?_) p e s m2 args below meth c B rk H locs ls hW hS hL
        obtain ⟨q1, q2⟩ := q
        cases q1
        exact kk h' q2
      · rename_i P y hF
        simp only [Option.some.injEq, Prod.mk.injEq] at hf
        obtain ⟨rfl, rfl, rfl, rfl⟩ := hf
        intro p e s m2 args below meth c B rk H locs ls hW hS hL
        refine J.callS (As := [.long a1, .int a2]) (mc := 0) (ms := 0) (hM X _ _ x _ _ _ hF hc h hp) (fun o h' q => ⟨_, q.1⟩) hd hG ⟨hy.1, hy.2.1, hy.2.2⟩ hR ⟨rk.2.2.1, rk.2.2.2⟩ (Nat.le_of_ble_eq_true hw) (fun v h' q => ?_) p e s m2 args below meth c B rk H locs ls hW hS hL
        obtain ⟨q1, q2⟩ := q
        cases q1
        exact kk h' q2
    · cases hf
  · cases hf
def TS_JJJ (M : MD) (F : Int64 → Int64 → Int64 → Tau → Prop × Option Value × Tau) : Prop := ∀ (X : Cx) (a1 : Int64) (a2 : Int64) (a3 : Int64) (x : Tau) (P : Prop) (r : Option Value) (y : Tau), F a1 a2 a3 x = (P, r, y) → P → ∀ h, TP X x h → Cg X M 0 0 [.long a1, .long a2, .long a3] h (fun o h' => o = .returned r ∧ TP X y h')
def tS_JJJ (F : Int64 → Int64 → Int64 → Tau → Prop × Option Value × Tau) : OPS Tau := .inr (fun s => match s with
  | (L, .long a3 :: .long a2 :: .long a1 :: st, x) => match wt8 st with
    | true => match F a1 a2 a3 x with
      | (P, some v, y) => some (P, L, v :: st, y)
      | (P, none, y) => some (P, L, st, y)
    | false => none
  | _ => none)
theorem ts_JJJ {M M' : MD} {pc idx : Nat} {F : Int64 → Int64 → Int64 → Tau → Prop × Option Value × Tau} (hM : TS_JJJ M' F) (hG : GoodIn lw_all (va_wsS M.y.cls idx M'.y (ws_ M'.y M'.cc M'.nL M'.ret))) (hy : M'.y.cls ≠ "java/lang/invoke/MethodHandle" ∧ M'.y.cls ≠ "java/lang/invoke/VarHandle" ∧ (parseMethodDescriptor M'.y.desc).map (fun d => d.parameters.length) = some 3) (hR : M'.lv + 1 ≤ M.lv ∧ M'.nL ≤ 421) (hd : decode M.cc pc = .ok (.invokestatic idx, 3)) : JStp TP M pc (pc + 3) (tS_JJJ F) := by
  intro X R Z k m L st x cnd L' st' x' hf hc kk h hp
  dsimp only at hf
  split at hf
  · rename_i L2 a3 a2 a1 st2 x2 heq
    cases heq
    split at hf
    · rename_i hw
      split at hf
      · rename_i P v y hF
        simp only [Option.some.injEq, Prod.mk.injEq] at hf
        obtain ⟨rfl, rfl, rfl, rfl⟩ := hf
        intro p e s m2 args below meth c B rk H locs ls hW hS hL
        refine J.callS (As := [.long a1, .long a2, .long a3]) (mc := 0) (ms := 0) (hM X _ _ _ x _ _ _ hF hc h hp) (fun o h' q => ⟨_, q.1⟩) hd hG ⟨hy.1, hy.2.1, hy.2.2⟩ hR ⟨rk.2.2.1, rk.2.2.2⟩ (Nat.le_of_ble_eq_true hw) (fun v h' q => ?_) p e s m2 args below meth c B rk H locs ls hW hS hL
        obtain ⟨q1, q2⟩ := q
        cases q1
        exact kk h' q2
      · rename_i P y hF
        simp only [Option.some.injEq, Prod.mk.injEq] at hf
        obtain ⟨rfl, rfl, rfl, rfl⟩ := hf
        intro p e s m2 args below meth c B rk H locs ls hW hS hL
        refine J.callS (As := [.long a1, .long a2, .long a3]) (mc := 0) (ms := 0) (hM X _ _ _ x _ _ _ hF hc h hp) (fun o h' q => ⟨_, q.1⟩) hd hG ⟨hy.1, hy.2.1, hy.2.2⟩ hR ⟨rk.2.2.1, rk.2.2.2⟩ (Nat.le_of_ble_eq_true hw) (fun v h' q => ?_) p e s m2 args below meth c B rk H locs ls hW hS hL
        obtain ⟨q1, q2⟩ := q
        cases q1
        exact kk h' q2
    · cases hf
  · cases hf
def TS_RIII (M : MD) (F : Nat → Int32 → Int32 → Int32 → Tau → Prop × Option Value × Tau) : Prop := ∀ (X : Cx) (a1 : Nat) (a2 : Int32) (a3 : Int32) (a4 : Int32) (x : Tau) (P : Prop) (r : Option Value) (y : Tau), F a1 a2 a3 a4 x = (P, r, y) → P → ∀ h, TP X x h → Cg X M 0 0 [.ref a1, .int a2, .int a3, .int a4] h (fun o h' => o = .returned r ∧ TP X y h')
def tS_RIII (F : Nat → Int32 → Int32 → Int32 → Tau → Prop × Option Value × Tau) : OPS Tau := .inr (fun s => match s with
  | (L, .int a4 :: .int a3 :: .int a2 :: .ref a1 :: st, x) => match wt8 st with
    | true => match F a1 a2 a3 a4 x with
      | (P, some v, y) => some (P, L, v :: st, y)
      | (P, none, y) => some (P, L, st, y)
    | false => none
  | _ => none)
theorem ts_RIII {M M' : MD} {pc idx : Nat} {F : Nat → Int32 → Int32 → Int32 → Tau → Prop × Option Value × Tau} (hM : TS_RIII M' F) (hG : GoodIn lw_all (va_wsS M.y.cls idx M'.y (ws_ M'.y M'.cc M'.nL M'.ret))) (hy : M'.y.cls ≠ "java/lang/invoke/MethodHandle" ∧ M'.y.cls ≠ "java/lang/invoke/VarHandle" ∧ (parseMethodDescriptor M'.y.desc).map (fun d => d.parameters.length) = some 4) (hR : M'.lv + 1 ≤ M.lv ∧ M'.nL ≤ 421) (hd : decode M.cc pc = .ok (.invokestatic idx, 3)) : JStp TP M pc (pc + 3) (tS_RIII F) := by
  intro X R Z k m L st x cnd L' st' x' hf hc kk h hp
  dsimp only at hf
  split at hf
  · rename_i L2 a4 a3 a2 a1 st2 x2 heq
    cases heq
    split at hf
    · rename_i hw
      split at hf
      · rename_i P v y hF
        simp only [Option.some.injEq, Prod.mk.injEq] at hf
        obtain ⟨rfl, rfl, rfl, rfl⟩ := hf
        intro p e s m2 args below meth c B rk H locs ls hW hS hL
        refine J.callS (As := [.ref a1, .int a2, .int a3, .int a4]) (mc := 0) (ms := 0) (hM X _ _ _ _ x _ _ _ hF hc h hp) (fun o h' q => ⟨_, q.1⟩) hd hG ⟨hy.1, hy.2.1, hy.2.2⟩ hR ⟨rk.2.2.1, rk.2.2.2⟩ (Nat.le_of_ble_eq_true hw) (fun v h' q => ?_) p e s m2 args below meth c B rk H locs ls hW hS hL
        obtain ⟨q1, q2⟩ := q
        cases q1
        exact kk h' q2
      · rename_i P y hF
        simp only [Option.some.injEq, Prod.mk.injEq] at hf
        obtain ⟨rfl, rfl, rfl, rfl⟩ := hf
        intro p e s m2 args below meth c B rk H locs ls hW hS hL
        refine J.callS (As := [.ref a1, .int a2, .int a3, .int a4]) (mc := 0) (ms := 0) (hM X _ _ _ _ x _ _ _ hF hc h hp) (fun o h' q => ⟨_, q.1⟩) hd hG ⟨hy.1, hy.2.1, hy.2.2⟩ hR ⟨rk.2.2.1, rk.2.2.2⟩ (Nat.le_of_ble_eq_true hw) (fun v h' q => ?_) p e s m2 args below meth c B rk H locs ls hW hS hL
        obtain ⟨q1, q2⟩ := q
        cases q1
        exact kk h' q2
    · cases hf
  · cases hf
theorem tgX4_1 {M : MD} {pc : Nat} (hM : M.y.cls = RX4) (hd : decode M.cc pc = .ok (.getfield 9, 3)) : JStp TP M pc (pc + 3) (tR 1) := t_getR (by decide) (fun _ => rfl) (by rw [hM]; exact q1639) hd
theorem tgX4_2 {M : MD} {pc : Nat} (hM : M.y.cls = RX4) (hd : decode M.cc pc = .ok (.getfield 13, 3)) : JStp TP M pc (pc + 3) (tR 2) := t_getR (by decide) (fun _ => rfl) (by rw [hM]; exact q1640) hd
theorem tgX4_3 {M : MD} {pc : Nat} (hM : M.y.cls = RX4) (hd : decode M.cc pc = .ok (.getfield 16, 3)) : JStp TP M pc (pc + 3) (tR 3) := t_getR (by decide) (fun _ => rfl) (by rw [hM]; exact q1641) hd
theorem tgX4_4 {M : MD} {pc : Nat} (hM : M.y.cls = RX4) (hd : decode M.cc pc = .ok (.getfield 20, 3)) : JStp TP M pc (pc + 3) (tR 4) := t_getR (by decide) (fun _ => rfl) (by rw [hM]; exact q1642) hd
theorem tgX4_5 {M : MD} {pc : Nat} (hM : M.y.cls = RX4) (hd : decode M.cc pc = .ok (.getfield 114, 3)) : JStp TP M pc (pc + 3) (tI 5) := t_getI (by decide) (fun _ => rfl) (by rw [hM]; exact q1643) hd
theorem tpX4_5 {M : MD} {pc : Nat} (hM : M.y.cls = RX4) (hd : decode M.cc pc = .ok (.putfield 114, 3)) : JStp TP M pc (pc + 3) (tPI 5) := t_putI (by decide) rfl rfl (fun _ _ => rfl) (by rw [hM]; exact q1643) hd
theorem tgX4_6 {M : MD} {pc : Nat} (hM : M.y.cls = RX4) (hd : decode M.cc pc = .ok (.getfield 24, 3)) : JStp TP M pc (pc + 3) (tR 6) := t_getR (by decide) (fun _ => rfl) (by rw [hM]; exact q1644) hd
theorem tgX4_7 {M : MD} {pc : Nat} (hM : M.y.cls = RX4) (hd : decode M.cc pc = .ok (.getfield 117, 3)) : JStp TP M pc (pc + 3) (tI 7) := t_getI (by decide) (fun _ => rfl) (by rw [hM]; exact q1645) hd
theorem tpX4_7 {M : MD} {pc : Nat} (hM : M.y.cls = RX4) (hd : decode M.cc pc = .ok (.putfield 117, 3)) : JStp TP M pc (pc + 3) (tPI 7) := t_putI (by decide) rfl rfl (fun _ _ => rfl) (by rw [hM]; exact q1645) hd
theorem tgX4_8 {M : MD} {pc : Nat} (hM : M.y.cls = RX4) (hd : decode M.cc pc = .ok (.getfield 120, 3)) : JStp TP M pc (pc + 3) (tI 8) := t_getI (by decide) (fun _ => rfl) (by rw [hM]; exact q1646) hd
theorem tpX4_8 {M : MD} {pc : Nat} (hM : M.y.cls = RX4) (hd : decode M.cc pc = .ok (.putfield 120, 3)) : JStp TP M pc (pc + 3) (tPI 8) := t_putI (by decide) rfl rfl (fun _ _ => rfl) (by rw [hM]; exact q1646) hd
theorem tgX4_9 {M : MD} {pc : Nat} (hM : M.y.cls = RX4) (hd : decode M.cc pc = .ok (.getfield 127, 3)) : JStp TP M pc (pc + 3) (tI 9) := t_getI (by decide) (fun _ => rfl) (by rw [hM]; exact q1647) hd
theorem tpX4_9 {M : MD} {pc : Nat} (hM : M.y.cls = RX4) (hd : decode M.cc pc = .ok (.putfield 127, 3)) : JStp TP M pc (pc + 3) (tPI 9) := t_putI (by decide) rfl rfl (fun _ _ => rfl) (by rw [hM]; exact q1647) hd
theorem tgX4_10 {M : MD} {pc : Nat} (hM : M.y.cls = RX4) (hd : decode M.cc pc = .ok (.getfield 130, 3)) : JStp TP M pc (pc + 3) (tI 10) := t_getI (by decide) (fun _ => rfl) (by rw [hM]; exact q1648) hd
theorem tpX4_10 {M : MD} {pc : Nat} (hM : M.y.cls = RX4) (hd : decode M.cc pc = .ok (.putfield 130, 3)) : JStp TP M pc (pc + 3) (tPI 10) := t_putI (by decide) rfl rfl (fun _ _ => rfl) (by rw [hM]; exact q1648) hd
theorem tgX4_11 {M : MD} {pc : Nat} (hM : M.y.cls = RX4) (hd : decode M.cc pc = .ok (.getfield 141, 3)) : JStp TP M pc (pc + 3) (tI 11) := t_getI (by decide) (fun _ => rfl) (by rw [hM]; exact q1649) hd
theorem tpX4_11 {M : MD} {pc : Nat} (hM : M.y.cls = RX4) (hd : decode M.cc pc = .ok (.putfield 141, 3)) : JStp TP M pc (pc + 3) (tPI 11) := t_putI (by decide) rfl rfl (fun _ _ => rfl) (by rw [hM]; exact q1649) hd
theorem tgX4_12 {M : MD} {pc : Nat} (hM : M.y.cls = RX4) (hd : decode M.cc pc = .ok (.getfield 151, 3)) : JStp TP M pc (pc + 3) (tI 12) := t_getI (by decide) (fun _ => rfl) (by rw [hM]; exact q1650) hd
theorem tpX4_12 {M : MD} {pc : Nat} (hM : M.y.cls = RX4) (hd : decode M.cc pc = .ok (.putfield 151, 3)) : JStp TP M pc (pc + 3) (tPI 12) := t_putI (by decide) rfl rfl (fun _ _ => rfl) (by rw [hM]; exact q1650) hd
theorem tgX4_13 {M : MD} {pc : Nat} (hM : M.y.cls = RX4) (hd : decode M.cc pc = .ok (.getfield 27, 3)) : JStp TP M pc (pc + 3) (tI 13) := t_getI (by decide) (fun _ => rfl) (by rw [hM]; exact q1651) hd
theorem tpX4_13 {M : MD} {pc : Nat} (hM : M.y.cls = RX4) (hd : decode M.cc pc = .ok (.putfield 27, 3)) : JStp TP M pc (pc + 3) (tPI 13) := t_putI (by decide) rfl rfl (fun _ _ => rfl) (by rw [hM]; exact q1651) hd
theorem tgX4_14 {M : MD} {pc : Nat} (hM : M.y.cls = RX4) (hd : decode M.cc pc = .ok (.getfield 31, 3)) : JStp TP M pc (pc + 3) (tR 14) := t_getR (by decide) (fun _ => rfl) (by rw [hM]; exact q1652) hd
theorem tgX4_15 {M : MD} {pc : Nat} (hM : M.y.cls = RX4) (hd : decode M.cc pc = .ok (.getfield 34, 3)) : JStp TP M pc (pc + 3) (tR 15) := t_getR (by decide) (fun _ => rfl) (by rw [hM]; exact q1653) hd
theorem tgX4_16 {M : MD} {pc : Nat} (hM : M.y.cls = RX4) (hd : decode M.cc pc = .ok (.getfield 37, 3)) : JStp TP M pc (pc + 3) (tR 16) := t_getR (by decide) (fun _ => rfl) (by rw [hM]; exact q1654) hd
theorem tgX4_17 {M : MD} {pc : Nat} (hM : M.y.cls = RX4) (hd : decode M.cc pc = .ok (.getfield 40, 3)) : JStp TP M pc (pc + 3) (tR 17) := t_getR (by decide) (fun _ => rfl) (by rw [hM]; exact q1655) hd
theorem tgX4_18 {M : MD} {pc : Nat} (hM : M.y.cls = RX4) (hd : decode M.cc pc = .ok (.getfield 43, 3)) : JStp TP M pc (pc + 3) (tR 18) := t_getR (by decide) (fun _ => rfl) (by rw [hM]; exact q1656) hd
theorem tgX4_19 {M : MD} {pc : Nat} (hM : M.y.cls = RX4) (hd : decode M.cc pc = .ok (.getfield 46, 3)) : JStp TP M pc (pc + 3) (tR 19) := t_getR (by decide) (fun _ => rfl) (by rw [hM]; exact q1657) hd
theorem tgX4_20 {M : MD} {pc : Nat} (hM : M.y.cls = RX4) (hd : decode M.cc pc = .ok (.getfield 49, 3)) : JStp TP M pc (pc + 3) (tR 20) := t_getR (by decide) (fun _ => rfl) (by rw [hM]; exact q1658) hd
theorem tgX4_21 {M : MD} {pc : Nat} (hM : M.y.cls = RX4) (hd : decode M.cc pc = .ok (.getfield 52, 3)) : JStp TP M pc (pc + 3) (tR 21) := t_getR (by decide) (fun _ => rfl) (by rw [hM]; exact q1659) hd
theorem tgX4_22 {M : MD} {pc : Nat} (hM : M.y.cls = RX4) (hd : decode M.cc pc = .ok (.getfield 363, 3)) : JStp TP M pc (pc + 3) (tI 22) := t_getI (by decide) (fun _ => rfl) (by rw [hM]; exact q1660) hd
theorem tpX4_22 {M : MD} {pc : Nat} (hM : M.y.cls = RX4) (hd : decode M.cc pc = .ok (.putfield 363, 3)) : JStp TP M pc (pc + 3) (tPI 22) := t_putI (by decide) rfl rfl (fun _ _ => rfl) (by rw [hM]; exact q1660) hd
theorem tgX4_23 {M : MD} {pc : Nat} (hM : M.y.cls = RX4) (hd : decode M.cc pc = .ok (.getfield 55, 3)) : JStp TP M pc (pc + 3) (tR 23) := t_getR (by decide) (fun _ => rfl) (by rw [hM]; exact q1661) hd
theorem tgX4_24 {M : MD} {pc : Nat} (hM : M.y.cls = RX4) (hd : decode M.cc pc = .ok (.getfield 366, 3)) : JStp TP M pc (pc + 3) (tI 24) := t_getI (by decide) (fun _ => rfl) (by rw [hM]; exact q1662) hd
theorem tpX4_24 {M : MD} {pc : Nat} (hM : M.y.cls = RX4) (hd : decode M.cc pc = .ok (.putfield 366, 3)) : JStp TP M pc (pc + 3) (tPI 24) := t_putI (by decide) rfl rfl (fun _ _ => rfl) (by rw [hM]; exact q1662) hd
theorem tgX4_25 {M : MD} {pc : Nat} (hM : M.y.cls = RX4) (hd : decode M.cc pc = .ok (.getfield 58, 3)) : JStp TP M pc (pc + 3) (tR 25) := t_getR (by decide) (fun _ => rfl) (by rw [hM]; exact q1663) hd
theorem tgX4_26 {M : MD} {pc : Nat} (hM : M.y.cls = RX4) (hd : decode M.cc pc = .ok (.getfield 61, 3)) : JStp TP M pc (pc + 3) (tR 26) := t_getR (by decide) (fun _ => rfl) (by rw [hM]; exact q1664) hd
theorem tgX4_27 {M : MD} {pc : Nat} (hM : M.y.cls = RX4) (hd : decode M.cc pc = .ok (.getfield 64, 3)) : JStp TP M pc (pc + 3) (tR 27) := t_getR (by decide) (fun _ => rfl) (by rw [hM]; exact q1665) hd
theorem tgX4_28 {M : MD} {pc : Nat} (hM : M.y.cls = RX4) (hd : decode M.cc pc = .ok (.getfield 331, 3)) : JStp TP M pc (pc + 3) (tI 28) := t_getI (by decide) (fun _ => rfl) (by rw [hM]; exact q1666) hd
theorem tpX4_28 {M : MD} {pc : Nat} (hM : M.y.cls = RX4) (hd : decode M.cc pc = .ok (.putfield 331, 3)) : JStp TP M pc (pc + 3) (tPZ 28) := t_putZ (by decide) rfl rfl (fun _ _ => rfl) (by rw [hM]; exact q1666) hd
theorem tgX4_29 {M : MD} {pc : Nat} (hM : M.y.cls = RX4) (hd : decode M.cc pc = .ok (.getfield 319, 3)) : JStp TP M pc (pc + 3) (tJ 29) := t_getJ (by decide) (fun _ => rfl) (by rw [hM]; exact q1667) hd
theorem tpX4_29 {M : MD} {pc : Nat} (hM : M.y.cls = RX4) (hd : decode M.cc pc = .ok (.putfield 319, 3)) : JStp TP M pc (pc + 3) (tPJ 29) := t_putJ (by decide) rfl rfl rfl (fun _ _ => rfl) (by rw [hM]; exact q1667) hd
theorem tgX4_30 {M : MD} {pc : Nat} (hM : M.y.cls = RX4) (hd : decode M.cc pc = .ok (.getfield 67, 3)) : JStp TP M pc (pc + 3) (tR 30) := t_getR (by decide) (fun _ => rfl) (by rw [hM]; exact q1668) hd
theorem tgX4_31 {M : MD} {pc : Nat} (hM : M.y.cls = RX4) (hd : decode M.cc pc = .ok (.getfield 70, 3)) : JStp TP M pc (pc + 3) (tR 31) := t_getR (by decide) (fun _ => rfl) (by rw [hM]; exact q1669) hd
theorem tgX4_32 {M : MD} {pc : Nat} (hM : M.y.cls = RX4) (hd : decode M.cc pc = .ok (.getfield 73, 3)) : JStp TP M pc (pc + 3) (tR 32) := t_getR (by decide) (fun _ => rfl) (by rw [hM]; exact q1670) hd
theorem tgX4_33 {M : MD} {pc : Nat} (hM : M.y.cls = RX4) (hd : decode M.cc pc = .ok (.getfield 77, 3)) : JStp TP M pc (pc + 3) (tR 33) := t_getR (by decide) (fun _ => rfl) (by rw [hM]; exact q1671) hd
theorem tgX4_34 {M : MD} {pc : Nat} (hM : M.y.cls = RX4) (hd : decode M.cc pc = .ok (.getfield 401, 3)) : JStp TP M pc (pc + 3) (tI 34) := t_getI (by decide) (fun _ => rfl) (by rw [hM]; exact q1672) hd
theorem tpX4_34 {M : MD} {pc : Nat} (hM : M.y.cls = RX4) (hd : decode M.cc pc = .ok (.putfield 401, 3)) : JStp TP M pc (pc + 3) (tPI 34) := t_putI (by decide) rfl rfl (fun _ _ => rfl) (by rw [hM]; exact q1672) hd
theorem tgX4_35 {M : MD} {pc : Nat} (hM : M.y.cls = RX4) (hd : decode M.cc pc = .ok (.getfield 80, 3)) : JStp TP M pc (pc + 3) (tR 35) := t_getR (by decide) (fun _ => rfl) (by rw [hM]; exact q1673) hd
theorem tgX4_36 {M : MD} {pc : Nat} (hM : M.y.cls = RX4) (hd : decode M.cc pc = .ok (.getfield 83, 3)) : JStp TP M pc (pc + 3) (tR 36) := t_getR (by decide) (fun _ => rfl) (by rw [hM]; exact q1674) hd
theorem tgX4_37 {M : MD} {pc : Nat} (hM : M.y.cls = RX4) (hd : decode M.cc pc = .ok (.getfield 86, 3)) : JStp TP M pc (pc + 3) (tR 37) := t_getR (by decide) (fun _ => rfl) (by rw [hM]; exact q1675) hd
theorem tgX4_38 {M : MD} {pc : Nat} (hM : M.y.cls = RX4) (hd : decode M.cc pc = .ok (.getfield 89, 3)) : JStp TP M pc (pc + 3) (tR 38) := t_getR (by decide) (fun _ => rfl) (by rw [hM]; exact q1676) hd
theorem tgX4_39 {M : MD} {pc : Nat} (hM : M.y.cls = RX4) (hd : decode M.cc pc = .ok (.getfield 92, 3)) : JStp TP M pc (pc + 3) (tR 39) := t_getR (by decide) (fun _ => rfl) (by rw [hM]; exact q1677) hd
theorem tgX4_40 {M : MD} {pc : Nat} (hM : M.y.cls = RX4) (hd : decode M.cc pc = .ok (.getfield 96, 3)) : JStp TP M pc (pc + 3) (tR 40) := t_getR (by decide) (fun _ => rfl) (by rw [hM]; exact q1678) hd
