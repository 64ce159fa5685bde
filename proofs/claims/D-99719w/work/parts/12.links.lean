set_option maxRecDepth 100000
/-! links of the pools (printed by links.py) -/
abbrev m_X27_init : xM := (yX27_init, cX27_init, 3, none, [])
theorem w_X27_init : xw m_X27_init ∈ lw_all := q1415
abbrev m_X27_isDone : xM := (yX27_isDone, cX27_isDone, 2, some .boolean, [])
theorem w_X27_isDone : xw m_X27_isDone ∈ lw_all := q1492
abbrev m_X7_init : xM := (yX7_init, cX7_init, 2, none, [])
theorem w_X7_init : xw m_X7_init ∈ lw_all := q556
abbrev m_X7_of : xM := (yX7_of, cX7_of, 2, some .int, [])
theorem w_X7_of : xw m_X7_of ∈ lw_all := q1536
abbrev m_X16_init : xM := (yX16_init, cX16_init, 3, none, [])
theorem w_X16_init : xw m_X16_init ∈ lw_all := q1273
abbrev m_X16_with : xM := (yX16_with, cX16_with, 3, some .int, [])
theorem w_X16_with : xw m_X16_with ∈ lw_all := q1545
abbrev m_X2_init : xM := (yX2_init, cX2_init, 1, none, [])
theorem w_X2_init : xw m_X2_init ∈ lw_all := q159
abbrev m_X0_market : xM := (yX0_market, cX0_market, 4, some .int, [(0, 9, 12, 13)])
theorem w_X0_market : xw m_X0_market ∈ lw_all := q883
abbrev m_X0_law : xM := (yX0_law, cX0_law, 4, some .int, [(0, 9, 12, 13)])
theorem w_X0_law : xw m_X0_law ∈ lw_all := q1194
abbrev m_X0_work : xM := (yX0_work, cX0_work, 4, some .int, [(0, 9, 12, 13)])
theorem w_X0_work : xw m_X0_work ∈ lw_all := q1330
abbrev m_X0_book : xM := (yX0_book, cX0_book, 4, some .int, [(0, 9, 12, 13)])
theorem w_X0_book : xw m_X0_book ∈ lw_all := q1627
abbrev m_X0_told : xM := (yX0_told, cX0_told, 4, some .int, [(0, 9, 12, 13)])
theorem w_X0_told : xw m_X0_told ∈ lw_all := q1676
abbrev m_X0_thing : xM := (yX0_thing, cX0_thing, 5, some .int, [(0, 10, 13, 31), (0, 10, 17, 13)])
theorem w_X0_thing : xw m_X0_thing ∈ lw_all := q1702
abbrev m_X0_cry : xM := (yX0_cry, cX0_cry, 5, some .int, [(0, 10, 13, 31), (0, 10, 17, 13)])
theorem w_X0_cry : xw m_X0_cry ∈ lw_all := q1735
abbrev m_X0_stands : xM := (yX0_stands, cX0_stands, 7, some .int, [(0, 14, 17, 31), (0, 14, 21, 13)])
theorem w_X0_stands : xw m_X0_stands ∈ lw_all := q1742
abbrev m_X0_would : xM := (yX0_would, cX0_would, 10, some .int, [(0, 20, 23, 13)])
theorem w_X0_would : xw m_X0_would ∈ lw_all := q1750
abbrev m_X0_ahead : xM := (yX0_ahead, cX0_ahead, 5, some .int, [(0, 10, 13, 13)])
theorem w_X0_ahead : xw m_X0_ahead ∈ lw_all := q1758
abbrev m_X0_worth : xM := (yX0_worth, cX0_worth, 6, some .int, [(0, 11, 14, 31), (0, 11, 18, 13)])
theorem w_X0_worth : xw m_X0_worth ∈ lw_all := q1770
abbrev m_X0_fattest : xM := (yX0_fattest, cX0_fattest, 4, some .int, [(0, 8, 11, 13)])
theorem w_X0_fattest : xw m_X0_fattest ∈ lw_all := q1784
abbrev m_X0_match : xM := (yX0_match, cX0_match, 5, some .int, [(0, 10, 13, 13)])
theorem w_X0_match : xw m_X0_match ∈ lw_all := q1791
abbrev m_X0_fewest : xM := (yX0_fewest, cX0_fewest, 4, some .int, [(0, 9, 12, 13)])
theorem w_X0_fewest : xw m_X0_fewest ∈ lw_all := q1806
abbrev m_X0_level : xM := (yX0_level, cX0_level, 5, some .int, [(0, 10, 13, 13)])
theorem w_X0_level : xw m_X0_level ∈ lw_all := q1813
abbrev m_X0_fits : xM := (yX0_fits, cX0_fits, 4, some .int, [(0, 9, 12, 13)])
theorem w_X0_fits : xw m_X0_fits ∈ lw_all := q1831
abbrev m_X0_look : xM := (yX0_look, cX0_look, 4, some .int, [(0, 9, 12, 13)])
theorem w_X0_look : xw m_X0_look ∈ lw_all := q1843
abbrev m_X0_falsely : xM := (yX0_falsely, cX0_falsely, 4, some .int, [(0, 9, 12, 13)])
theorem w_X0_falsely : xw m_X0_falsely ∈ lw_all := q1854
abbrev m_X0_sellers : xM := (yX0_sellers, cX0_sellers, 6, some .int, [(0, 12, 15, 13)])
theorem w_X0_sellers : xw m_X0_sellers ∈ lw_all := q1861
abbrev m_X0_even : xM := (yX0_even, cX0_even, 6, some .int, [(0, 11, 14, 13)])
theorem w_X0_even : xw m_X0_even ∈ lw_all := q1871
abbrev m_X0_share : xM := (yX0_share, cX0_share, 6, some .int, [(0, 12, 15, 31), (0, 12, 19, 13)])
theorem w_X0_share : xw m_X0_share ∈ lw_all := q1879
abbrev m_X0_heaviest : xM := (yX0_heaviest, cX0_heaviest, 4, some .int, [(0, 9, 12, 13)])
theorem w_X0_heaviest : xw m_X0_heaviest ∈ lw_all := q1890
abbrev m_X0_above : xM := (yX0_above, cX0_above, 4, some .int, [(0, 9, 12, 31)])
theorem w_X0_above : xw m_X0_above ∈ lw_all := q1897
abbrev m_X0_alike : xM := (yX0_alike, cX0_alike, 4, some .int, [(0, 9, 12, 13)])
theorem w_X0_alike : xw m_X0_alike ∈ lw_all := q1904
abbrev m_X0_against : xM := (yX0_against, cX0_against, 5, some .int, [(0, 10, 13, 31)])
theorem w_X0_against : xw m_X0_against ∈ lw_all := q1911
abbrev m_X0_fair : xM := (yX0_fair, cX0_fair, 7, some .int, [(0, 14, 17, 13)])
theorem w_X0_fair : xw m_X0_fair ∈ lw_all := q1918
abbrev m_X0_span : xM := (yX0_span, cX0_span, 9, some .int, [(0, 18, 21, 13)])
theorem w_X0_span : xw m_X0_span ∈ lw_all := q1939
abbrev m_X31_init : xM := (yX31_init, cX31_init, 4, none, [])
theorem w_X31_init : xw m_X31_init ∈ lw_all := q1636
abbrev m_X31_reads : xM := (yX31_reads, cX31_reads, 2, some (.array .int), [])
theorem w_X31_reads : xw m_X31_reads ∈ lw_all := q1657
abbrev m_X1_init : xM := (yX1_init, cX1_init, 1, none, [])
theorem w_X1_init : xw m_X1_init ∈ lw_all := q151
abbrev m_X1_custom : xM := (yX1_custom, cX1_custom, 0, some (.object "LeaningMarket$Term"), [])
theorem w_X1_custom : xw m_X1_custom ∈ lw_all := q536
abbrev m_X1_begins : xM := (yX1_begins, cX1_begins, 1, none, [])
theorem w_X1_begins : xw m_X1_begins ∈ lw_all := q632
abbrev m_X1_feed : xM := (yX1_feed, cX1_feed, 6, some .int, [])
theorem w_X1_feed : xw m_X1_feed ∈ lw_all := q809
abbrev m_X1_put : xM := (yX1_put, cX1_put, 3, none, [])
theorem w_X1_put : xw m_X1_put ∈ lw_all := q813
abbrev m_X1_fault : xM := (yX1_fault, cX1_fault, 1, some .int, [])
theorem w_X1_fault : xw m_X1_fault ∈ lw_all := q817
abbrev m_X1_undo : xM := (yX1_undo, cX1_undo, 1, some .int, [])
theorem w_X1_undo : xw m_X1_undo ∈ lw_all := q821
abbrev m_X1_fat : xM := (yX1_fat, cX1_fat, 1, some .int, [])
theorem w_X1_fat : xw m_X1_fat ∈ lw_all := q829
abbrev m_X1_findRings : xM := (yX1_findRings, cX1_findRings, 3, none, [])
theorem w_X1_findRings : xw m_X1_findRings ∈ lw_all := q833
abbrev m_X1_nothingYet : xM := (yX1_nothingYet, cX1_nothingYet, 1, none, [])
theorem w_X1_nothingYet : xw m_X1_nothingYet ∈ lw_all := q837
abbrev m_X1_chains : xM := (yX1_chains, cX1_chains, 16, none, [])
theorem w_X1_chains : xw m_X1_chains ∈ lw_all := q841
abbrev m_X1_has : xM := (yX1_has, cX1_has, 2, some .boolean, [])
theorem w_X1_has : xw m_X1_has ∈ lw_all := q847
abbrev m_X1_mend : xM := (yX1_mend, cX1_mend, 3, some .int, [])
theorem w_X1_mend : xw m_X1_mend ∈ lw_all := q851
abbrev m_X1_image : xM := (yX1_image, cX1_image, 2, some .int, [])
theorem w_X1_image : xw m_X1_image ∈ lw_all := q861
abbrev m_X1_kept : xM := (yX1_kept, cX1_kept, 4, none, [])
theorem w_X1_kept : xw m_X1_kept ∈ lw_all := q865
abbrev m_X1_restore : xM := (yX1_restore, cX1_restore, 2, some .int, [])
theorem w_X1_restore : xw m_X1_restore ∈ lw_all := q869
abbrev m_X1_status : xM := (yX1_status, cX1_status, 2, some .int, [])
theorem w_X1_status : xw m_X1_status ∈ lw_all := q873
abbrev m_X1_isPart : xM := (yX1_isPart, cX1_isPart, 1, some .boolean, [])
theorem w_X1_isPart : xw m_X1_isPart ∈ lw_all := q876
abbrev m_X1_count : xM := (yX1_count, cX1_count, 2, some .int, [])
theorem w_X1_count : xw m_X1_count ∈ lw_all := q880
abbrev m_X1_market : xM := (yX1_market, cX1_market, 5, some .int, [(21, 57, 64, 147), (21, 57, 78, 0), (64, 71, 78, 0), (78, 80, 78, 0)])
theorem w_X1_market : xw m_X1_market ∈ lw_all := q888
abbrev m_X1_need : xM := (yX1_need, cX1_need, 2, none, [])
theorem w_X1_need : xw m_X1_need ∈ lw_all := q893
abbrev m_X1_failed : xM := (yX1_failed, cX1_failed, 2, some .int, [])
theorem w_X1_failed : xw m_X1_failed ∈ lw_all := q1191
abbrev m_X1_law : xM := (yX1_law, cX1_law, 5, some .int, [(28, 54, 61, 147), (28, 54, 75, 0), (61, 68, 75, 0), (75, 77, 75, 0)])
theorem w_X1_law : xw m_X1_law ∈ lw_all := q1198
abbrev m_X1_work : xM := (yX1_work, cX1_work, 5, some .int, [(28, 45, 182, 147), (52, 175, 182, 147), (28, 45, 196, 0), (52, 175, 196, 0), (182, 189, 196, 0), (196, 198, 196, 0)])
theorem w_X1_work : xw m_X1_work ∈ lw_all := q1334
abbrev m_X1_wearBy : xM := (yX1_wearBy, cX1_wearBy, 8, some .int, [])
theorem w_X1_wearBy : xw m_X1_wearBy ∈ lw_all := q1525
abbrev m_X1_standsBy : xM := (yX1_standsBy, cX1_standsBy, 4, some .int, [])
theorem w_X1_standsBy : xw m_X1_standsBy ∈ lw_all := q1610
abbrev m_X1_book : xM := (yX1_book, cX1_book, 5, some .int, [(27, 80, 87, 147), (27, 80, 101, 0), (87, 94, 101, 0), (101, 103, 101, 0)])
theorem w_X1_book : xw m_X1_book ∈ lw_all := q1631
abbrev m_X1_told : xM := (yX1_told, cX1_told, 2, some .int, [])
theorem w_X1_told : xw m_X1_told ∈ lw_all := q1680
abbrev m_X1_isIn : xM := (yX1_isIn, cX1_isIn, 3, some .boolean, [])
theorem w_X1_isIn : xw m_X1_isIn ∈ lw_all := q1683
abbrev m_X1_thing : xM := (yX1_thing, cX1_thing, 3, some .int, [])
theorem w_X1_thing : xw m_X1_thing ∈ lw_all := q1707
abbrev m_X1_needThing : xM := (yX1_needThing, cX1_needThing, 2, none, [])
theorem w_X1_needThing : xw m_X1_needThing ∈ lw_all := q1711
abbrev m_X1_needThere : xM := (yX1_needThere, cX1_needThere, 3, none, [])
theorem w_X1_needThere : xw m_X1_needThere ∈ lw_all := q1715
abbrev m_X1_cry : xM := (yX1_cry, cX1_cry, 4, some .int, [])
theorem w_X1_cry : xw m_X1_cry ∈ lw_all := q1739
abbrev m_X1_stands : xM := (yX1_stands, cX1_stands, 5, some .int, [])
theorem w_X1_stands : xw m_X1_stands ∈ lw_all := q1746
abbrev m_X1_would : xM := (yX1_would, cX1_would, 8, some .int, [])
theorem w_X1_would : xw m_X1_would ∈ lw_all := q1754
abbrev m_X1_ahead : xM := (yX1_ahead, cX1_ahead, 5, some .int, [])
theorem w_X1_ahead : xw m_X1_ahead ∈ lw_all := q1762
abbrev m_X1_worth : xM := (yX1_worth, cX1_worth, 4, some .long, [])
theorem w_X1_worth : xw m_X1_worth ∈ lw_all := q1774
abbrev m_X1_findChain : xM := (yX1_findChain, cX1_findChain, 3, none, [])
theorem w_X1_findChain : xw m_X1_findChain ∈ lw_all := q1778
abbrev m_X1_least : xM := (yX1_least, cX1_least, 11, some .long, [])
theorem w_X1_least : xw m_X1_least ∈ lw_all := q1781
abbrev m_X1_fattest : xM := (yX1_fattest, cX1_fattest, 2, some .long, [])
theorem w_X1_fattest : xw m_X1_fattest ∈ lw_all := q1788
abbrev m_X1_match : xM := (yX1_match, cX1_match, 6, some .int, [])
theorem w_X1_match : xw m_X1_match ∈ lw_all := q1795
abbrev m_X1_needSet : xM := (yX1_needSet, cX1_needSet, 2, none, [])
theorem w_X1_needSet : xw m_X1_needSet ∈ lw_all := q1799
abbrev m_X1_layMatch : xM := (yX1_layMatch, cX1_layMatch, 4, none, [])
theorem w_X1_layMatch : xw m_X1_layMatch ∈ lw_all := q1803
abbrev m_X1_fewest : xM := (yX1_fewest, cX1_fewest, 4, some .int, [])
theorem w_X1_fewest : xw m_X1_fewest ∈ lw_all := q1810
abbrev m_X1_level : xM := (yX1_level, cX1_level, 9, some .int, [])
theorem w_X1_level : xw m_X1_level ∈ lw_all := q1817
abbrev m_X1_weightOf : xM := (yX1_weightOf, cX1_weightOf, 4, some .int, [])
theorem w_X1_weightOf : xw m_X1_weightOf ∈ lw_all := q1821
abbrev m_X1_fits : xM := (yX1_fits, cX1_fits, 6, some .int, [])
theorem w_X1_fits : xw m_X1_fits ∈ lw_all := q1835
abbrev m_X1_isFit : xM := (yX1_isFit, cX1_isFit, 4, some .boolean, [])
theorem w_X1_isFit : xw m_X1_isFit ∈ lw_all := q1839
abbrev m_X1_look : xM := (yX1_look, cX1_look, 7, some .int, [])
theorem w_X1_look : xw m_X1_look ∈ lw_all := q1847
abbrev m_X1_worstOf : xM := (yX1_worstOf, cX1_worstOf, 5, some .int, [])
theorem w_X1_worstOf : xw m_X1_worstOf ∈ lw_all := q1851
abbrev m_X1_falsely : xM := (yX1_falsely, cX1_falsely, 4, some .int, [])
theorem w_X1_falsely : xw m_X1_falsely ∈ lw_all := q1858
abbrev m_X1_sellers : xM := (yX1_sellers, cX1_sellers, 8, some .int, [])
theorem w_X1_sellers : xw m_X1_sellers ∈ lw_all := q1865
abbrev m_X1_hasBy : xM := (yX1_hasBy, cX1_hasBy, 4, some .int, [])
theorem w_X1_hasBy : xw m_X1_hasBy ∈ lw_all := q1868
abbrev m_X1_even : xM := (yX1_even, cX1_even, 9, some .long, [])
theorem w_X1_even : xw m_X1_even ∈ lw_all := q1875
abbrev m_X1_share : xM := (yX1_share, cX1_share, 5, some .int, [])
theorem w_X1_share : xw m_X1_share ∈ lw_all := q1883
abbrev m_X1_shared : xM := (yX1_shared, cX1_shared, 5, some .int, [])
theorem w_X1_shared : xw m_X1_shared ∈ lw_all := q1887
abbrev m_X1_heaviest : xM := (yX1_heaviest, cX1_heaviest, 3, some .int, [])
theorem w_X1_heaviest : xw m_X1_heaviest ∈ lw_all := q1894
abbrev m_X1_above : xM := (yX1_above, cX1_above, 4, some .int, [])
theorem w_X1_above : xw m_X1_above ∈ lw_all := q1901
abbrev m_X1_alike : xM := (yX1_alike, cX1_alike, 6, some .int, [])
theorem w_X1_alike : xw m_X1_alike ∈ lw_all := q1908
abbrev m_X1_against : xM := (yX1_against, cX1_against, 4, some .int, [])
theorem w_X1_against : xw m_X1_against ∈ lw_all := q1915
abbrev m_X1_fair : xM := (yX1_fair, cX1_fair, 6, some .int, [])
theorem w_X1_fair : xw m_X1_fair ∈ lw_all := q1922
abbrev m_X1_isFair : xM := (yX1_isFair, cX1_isFair, 2, some .boolean, [])
theorem w_X1_isFair : xw m_X1_isFair ∈ lw_all := q1925
abbrev m_X1_fairBy : xM := (yX1_fairBy, cX1_fairBy, 8, some (.object "LeaningMarket$Market"), [])
theorem w_X1_fairBy : xw m_X1_fairBy ∈ lw_all := q1929
abbrev m_X1_draw : xM := (yX1_draw, cX1_draw, 2, some .int, [])
theorem w_X1_draw : xw m_X1_draw ∈ lw_all := q1933
abbrev m_X1_span : xM := (yX1_span, cX1_span, 12, some .int, [])
theorem w_X1_span : xw m_X1_span ∈ lw_all := q1943
abbrev m_X13_init : xM := (yX13_init, cX13_init, 3, none, [])
theorem w_X13_init : xw m_X13_init ∈ lw_all := q1096
abbrev m_X22_init : xM := (yX22_init, cX22_init, 4, none, [])
theorem w_X22_init : xw m_X22_init ∈ lw_all := q1339
abbrev m_X22_reads : xM := (yX22_reads, cX22_reads, 2, some (.object "java/util/ArrayList"), [])
theorem w_X22_reads : xw m_X22_reads ∈ lw_all := q1353
abbrev m_X22_step : xM := (yX22_step, cX22_step, 5, some (.object "LeaningMarket$Step"), [])
theorem w_X22_step : xw m_X22_step ∈ lw_all := q1362
abbrev m_X22_act : xM := (yX22_act, cX22_act, 5, some (.object "LeaningMarket$Step"), [])
theorem w_X22_act : xw m_X22_act ∈ lw_all := q1378
abbrev m_X22_again : xM := (yX22_again, cX22_again, 2, some (.object "LeaningMarket$Step"), [])
theorem w_X22_again : xw m_X22_again ∈ lw_all := q1441
abbrev m_J20_getUTF16Char : xM := (yJ20_getUTF16Char, cJ20_getUTF16Char, 3, some .char, [])
theorem w_J20_getUTF16Char : xw m_J20_getUTF16Char ∈ lw_all := q1039
abbrev m_X5_init : xM := (yX5_init, cX5_init, 3, none, [])
theorem w_X5_init : xw m_X5_init ∈ lw_all := q564
abbrev m_X5_with : xM := (yX5_with, cX5_with, 3, some .int, [])
theorem w_X5_with : xw m_X5_with ∈ lw_all := q1542
abbrev m_X3_init : xM := (yX3_init, cX3_init, 1, none, [])
theorem w_X3_init : xw m_X3_init ∈ lw_all := q546
abbrev m_X6_init : xM := (yX6_init, cX6_init, 2, none, [])
theorem w_X6_init : xw m_X6_init ∈ lw_all := q543
abbrev m_X6_of : xM := (yX6_of, cX6_of, 2, some .int, [])
theorem w_X6_of : xw m_X6_of ∈ lw_all := q1534
abbrev m_X14_init : xM := (yX14_init, cX14_init, 5, none, [])
theorem w_X14_init : xw m_X14_init ∈ lw_all := q1154
abbrev m_X14_isOf : xM := (yX14_isOf, cX14_isOf, 2, some .boolean, [])
theorem w_X14_isOf : xw m_X14_isOf ∈ lw_all := q1520
abbrev m_X14_isLike : xM := (yX14_isLike, cX14_isLike, 2, some .boolean, [])
theorem w_X14_isLike : xw m_X14_isLike ∈ lw_all := q1619
abbrev m_X21_init : xM := (yX21_init, cX21_init, 3, none, [])
theorem w_X21_init : xw m_X21_init ∈ lw_all := q1323
abbrev m_X21_with : xM := (yX21_with, cX21_with, 3, some .int, [])
theorem w_X21_with : xw m_X21_with ∈ lw_all := q1552
abbrev m_J15_inflate : xM := (yJ15_inflate, cJ15_inflate, 5, none, [])
theorem w_J15_inflate : xw m_J15_inflate ∈ lw_all := q353
abbrev m_J15_canEncode : xM := (yJ15_canEncode, cJ15_canEncode, 1, some .boolean, [])
theorem w_J15_canEncode : xw m_J15_canEncode ∈ lw_all := q991
abbrev m_J15_hashCode : xM := (yJ15_hashCode, cJ15_hashCode, 1, some .int, [])
theorem w_J15_hashCode : xw m_J15_hashCode ∈ lw_all := q1017
abbrev m_J15_equals : xM := (yJ15_equals, cJ15_equals, 3, some .boolean, [])
theorem w_J15_equals : xw m_J15_equals ∈ lw_all := q1076
abbrev m_X8_init : xM := (yX8_init, cX8_init, 2, none, [])
theorem w_X8_init : xw m_X8_init ∈ lw_all := q580
abbrev m_X8_begins : xM := (yX8_begins, cX8_begins, 2, some (.object "LeaningMarket$Market"), [])
theorem w_X8_begins : xw m_X8_begins ∈ lw_all := q636
abbrev m_X8_cries : xM := (yX8_cries, cX8_cries, 3, none, [])
theorem w_X8_cries : xw m_X8_cries ∈ lw_all := q641
abbrev m_X8_becomes : xM := (yX8_becomes, cX8_becomes, 2, some (.object "LeaningMarket$Market"), [])
theorem w_X8_becomes : xw m_X8_becomes ∈ lw_all := q825
abbrev m_X8_feeds : xM := (yX8_feeds, cX8_feeds, 3, some .boolean, [])
theorem w_X8_feeds : xw m_X8_feeds ∈ lw_all := q1496
abbrev m_X8_day : xM := (yX8_day, cX8_day, 1, some .boolean, [])
theorem w_X8_day : xw m_X8_day ∈ lw_all := q1504
abbrev m_X8_passes : xM := (yX8_passes, cX8_passes, 2, none, [])
theorem w_X8_passes : xw m_X8_passes ∈ lw_all := q1508
abbrev m_X8_wear : xM := (yX8_wear, cX8_wear, 2, some .int, [])
theorem w_X8_wear : xw m_X8_wear ∈ lw_all := q1512
abbrev m_X8_criesOf : xM := (yX8_criesOf, cX8_criesOf, 4, some .int, [])
theorem w_X8_criesOf : xw m_X8_criesOf ∈ lw_all := q1516
abbrev m_X8_tips : xM := (yX8_tips, cX8_tips, 2, some .boolean, [])
theorem w_X8_tips : xw m_X8_tips ∈ lw_all := q1580
abbrev m_X8_turns : xM := (yX8_turns, cX8_turns, 1, some .boolean, [])
theorem w_X8_turns : xw m_X8_turns ∈ lw_all := q1596
abbrev m_X8_weighs : xM := (yX8_weighs, cX8_weighs, 7, some .boolean, [])
theorem w_X8_weighs : xw m_X8_weighs ∈ lw_all := q1603
abbrev m_X8_stands : xM := (yX8_stands, cX8_stands, 5, some .int, [])
theorem w_X8_stands : xw m_X8_stands ∈ lw_all := q1607
abbrev m_X8_isCried : xM := (yX8_isCried, cX8_isCried, 3, some .boolean, [])
theorem w_X8_isCried : xw m_X8_isCried ∈ lw_all := q1615
abbrev m_X8_all : xM := (yX8_all, cX8_all, 3, some .int, [])
theorem w_X8_all : xw m_X8_all ∈ lw_all := q1687
abbrev m_X8_notSo : xM := (yX8_notSo, cX8_notSo, 3, some .int, [])
theorem w_X8_notSo : xw m_X8_notSo ∈ lw_all := q1691
abbrev m_X8_isSo : xM := (yX8_isSo, cX8_isSo, 2, some .boolean, [])
theorem w_X8_isSo : xw m_X8_isSo ∈ lw_all := q1695
abbrev m_X8_inCries : xM := (yX8_inCries, cX8_inCries, 3, some .int, [])
theorem w_X8_inCries : xw m_X8_inCries ∈ lw_all := q1699
abbrev m_X8_heaviest : xM := (yX8_heaviest, cX8_heaviest, 3, some .int, [])
theorem w_X8_heaviest : xw m_X8_heaviest ∈ lw_all := q1767
abbrev m_J16_stringSize : xM := (yJ16_stringSize, cJ16_stringSize, 4, some .int, [])
theorem w_J16_stringSize : xw m_J16_stringSize ∈ lw_all := q381
abbrev m_J16_getChars : xM := (yJ16_getChars, cJ16_getChars, 7, some .int, [])
theorem w_J16_getChars : xw m_J16_getChars ∈ lw_all := q384
abbrev m_J16_bitCount : xM := (yJ16_bitCount, cJ16_bitCount, 1, some .int, [])
theorem w_J16_bitCount : xw m_J16_bitCount ∈ lw_all := q854
abbrev m_J16_numberOfTrailingZeros : xM := (yJ16_numberOfTrailingZeros, cJ16_numberOfTrailingZeros, 2, some .int, [])
theorem w_J16_numberOfTrailingZeros : xw m_J16_numberOfTrailingZeros ∈ lw_all := q1824
abbrev m_J7_init : xM := (yJ7_init, cJ7_init, 2, none, [])
theorem w_J7_init : xw m_J7_init ∈ lw_all := q225
abbrev m_J7_append : xM := (yJ7_append, cJ7_append, 3, some (.object "java/lang/AbstractStringBuilder"), [])
theorem w_J7_append : xw m_J7_append ∈ lw_all := q258
abbrev m_J7_appendNull : xM := (yJ7_appendNull, cJ7_appendNull, 3, some (.object "java/lang/AbstractStringBuilder"), [])
theorem w_J7_appendNull : xw m_J7_appendNull ∈ lw_all := q262
abbrev m_J7_ensureCapacityInternal : xM := (yJ7_ensureCapacityInternal, cJ7_ensureCapacityInternal, 3, none, [])
theorem w_J7_ensureCapacityInternal : xw m_J7_ensureCapacityInternal ∈ lw_all := q266
abbrev m_J7_newCapacity : xM := (yJ7_newCapacity, cJ7_newCapacity, 6, some .int, [])
theorem w_J7_newCapacity : xw m_J7_newCapacity ∈ lw_all := q270
abbrev m_J7_isLatin1 : xM := (yJ7_isLatin1, cJ7_isLatin1, 1, some .boolean, [])
theorem w_J7_isLatin1 : xw m_J7_isLatin1 ∈ lw_all := q302
abbrev m_J7_putStringAt : xM := (yJ7_putStringAt, cJ7_putStringAt, 3, none, [])
theorem w_J7_putStringAt : xw m_J7_putStringAt ∈ lw_all := q341
abbrev m_J7_inflateIfNeededFor : xM := (yJ7_inflateIfNeededFor, cJ7_inflateIfNeededFor, 2, none, [])
theorem w_J7_inflateIfNeededFor : xw m_J7_inflateIfNeededFor ∈ lw_all := q345
abbrev m_J7_inflate : xM := (yJ7_inflate, cJ7_inflate, 2, none, [])
theorem w_J7_inflate : xw m_J7_inflate ∈ lw_all := q350
abbrev m_J7_append_2 : xM := (yJ7_append_2, cJ7_append_2, 4, some (.object "java/lang/AbstractStringBuilder"), [])
theorem w_J7_append_2 : xw m_J7_append_2 ∈ lw_all := q378
abbrev m_J7_getValue : xM := (yJ7_getValue, cJ7_getValue, 1, some (.array .byte), [])
theorem w_J7_getValue : xw m_J7_getValue ∈ lw_all := q414
abbrev m_J7_length : xM := (yJ7_length, cJ7_length, 1, some .int, [])
theorem w_J7_length : xw m_J7_length ∈ lw_all := q422
abbrev m_J7_append_3 : xM := (yJ7_append_3, cJ7_append_3, 2, some (.object "java/lang/AbstractStringBuilder"), [])
theorem w_J7_append_3 : xw m_J7_append_3 ∈ lw_all := q988
abbrev m_X29_init : xM := (yX29_init, cX29_init, 1, none, [])
theorem w_X29_init : xw m_X29_init ∈ lw_all := q1435
abbrev m_X29_isDone : xM := (yX29_isDone, cX29_isDone, 2, some .boolean, [])
theorem w_X29_isDone : xw m_X29_isDone ∈ lw_all := q1500
abbrev m_J9_checkBoundsBeginEnd : xM := (yJ9_checkBoundsBeginEnd, cJ9_checkBoundsBeginEnd, 3, none, [])
theorem w_J9_checkBoundsBeginEnd : xw m_J9_checkBoundsBeginEnd ∈ lw_all := q314
abbrev m_J9_length : xM := (yJ9_length, cJ9_length, 1, some .int, [])
theorem w_J9_length : xw m_J9_length ∈ lw_all := q332
abbrev m_J9_coder : xM := (yJ9_coder, cJ9_coder, 1, some .byte, [])
theorem w_J9_coder : xw m_J9_coder ∈ lw_all := q336
abbrev m_J9_checkBoundsOffCount : xM := (yJ9_checkBoundsOffCount, cJ9_checkBoundsOffCount, 3, some .int, [])
theorem w_J9_checkBoundsOffCount : xw m_J9_checkBoundsOffCount ∈ lw_all := q362
abbrev m_J9_getBytes : xM := (yJ9_getBytes, cJ9_getBytes, 4, none, [])
theorem w_J9_getBytes : xw m_J9_getBytes ∈ lw_all := q369
abbrev m_J9_init : xM := (yJ9_init, cJ9_init, 2, none, [])
theorem w_J9_init : xw m_J9_init ∈ lw_all := q405
abbrev m_J9_init_2 : xM := (yJ9_init_2, cJ9_init_2, 5, none, [])
theorem w_J9_init_2 : xw m_J9_init_2 ∈ lw_all := q408
abbrev m_J9_checkIndex : xM := (yJ9_checkIndex, cJ9_checkIndex, 2, none, [])
theorem w_J9_checkIndex : xw m_J9_checkIndex ∈ lw_all := q1000
abbrev m_J9_hashCode : xM := (yJ9_hashCode, cJ9_hashCode, 2, some .int, [])
theorem w_J9_hashCode : xw m_J9_hashCode ∈ lw_all := q1010
abbrev m_J9_isLatin1 : xM := (yJ9_isLatin1, cJ9_isLatin1, 1, some .boolean, [])
theorem w_J9_isLatin1 : xw m_J9_isLatin1 ∈ lw_all := q1014
abbrev m_J9_equals : xM := (yJ9_equals, cJ9_equals, 3, some .boolean, [])
theorem w_J9_equals : xw m_J9_equals ∈ lw_all := q1072
abbrev m_X9_init : xM := (yX9_init, cX9_init, 1, none, [])
theorem w_X9_init : xw m_X9_init ∈ lw_all := q1948
abbrev m_X9_tellsNothing : xM := (yX9_tellsNothing, cX9_tellsNothing, 1, none, [])
theorem w_X9_tellsNothing : xw m_X9_tellsNothing ∈ lw_all := q1955
abbrev m_X9_beginsAnew : xM := (yX9_beginsAnew, cX9_beginsAnew, 3, none, [])
theorem w_X9_beginsAnew : xw m_X9_beginsAnew ∈ lw_all := q1959
abbrev m_X9_lays : xM := (yX9_lays, cX9_lays, 5, none, [])
theorem w_X9_lays : xw m_X9_lays ∈ lw_all := q1962
abbrev m_X9_thrown : xM := (yX9_thrown, cX9_thrown, 1, some .int, [])
theorem w_X9_thrown : xw m_X9_thrown ∈ lw_all := q2105
abbrev m_X9_feed : xM := (yX9_feed, cX9_feed, 8, some .int, [])
theorem w_X9_feed : xw m_X9_feed ∈ lw_all := q2109
abbrev m_X9_market : xM := (yX9_market, cX9_market, 2, some .int, [])
theorem w_X9_market : xw m_X9_market ∈ lw_all := q2113
abbrev m_X9_in : xM := (yX9_in, cX9_in, 3, some .boolean, [])
theorem w_X9_in : xw m_X9_in ∈ lw_all := q2116
abbrev m_X9_bad : xM := (yX9_bad, cX9_bad, 4, some .boolean, [])
theorem w_X9_bad : xw m_X9_bad ∈ lw_all := q2120
abbrev m_X9_starts : xM := (yX9_starts, cX9_starts, 2, none, [])
theorem w_X9_starts : xw m_X9_starts ∈ lw_all := q2124
abbrev m_X9_blanks : xM := (yX9_blanks, cX9_blanks, 1, none, [])
theorem w_X9_blanks : xw m_X9_blanks ∈ lw_all := q2128
abbrev m_X9_byteAt : xM := (yX9_byteAt, cX9_byteAt, 2, some .int, [])
theorem w_X9_byteAt : xw m_X9_byteAt ∈ lw_all := q2132
abbrev m_X9_clause : xM := (yX9_clause, cX9_clause, 5, none, [])
theorem w_X9_clause : xw m_X9_clause ∈ lw_all := q2136
abbrev m_X9_kindHere : xM := (yX9_kindHere, cX9_kindHere, 1, some .int, [])
theorem w_X9_kindHere : xw m_X9_kindHere ∈ lw_all := q2140
abbrev m_X9_isWord : xM := (yX9_isWord, cX9_isWord, 7, some .boolean, [])
theorem w_X9_isWord : xw m_X9_isWord ∈ lw_all := q2144
abbrev m_X9_wordHere : xM := (yX9_wordHere, cX9_wordHere, 3, some .int, [])
theorem w_X9_wordHere : xw m_X9_wordHere ∈ lw_all := q2148
abbrev m_X9_isSmall : xM := (yX9_isSmall, cX9_isSmall, 1, some .boolean, [])
theorem w_X9_isSmall : xw m_X9_isSmall ∈ lw_all := q2151
abbrev m_X9_six : xM := (yX9_six, cX9_six, 7, some .int, [])
theorem w_X9_six : xw m_X9_six ∈ lw_all := q2154
abbrev m_X9_wrong : xM := (yX9_wrong, cX9_wrong, 3, none, [])
theorem w_X9_wrong : xw m_X9_wrong ∈ lw_all := q2158
abbrev m_X9_mostOf : xM := (yX9_mostOf, cX9_mostOf, 1, some .int, [])
theorem w_X9_mostOf : xw m_X9_mostOf ∈ lw_all := q2161
abbrev m_X9_skipWord : xM := (yX9_skipWord, cX9_skipWord, 1, none, [])
theorem w_X9_skipWord : xw m_X9_skipWord ∈ lw_all := q2165
abbrev m_X9_number : xM := (yX9_number, cX9_number, 5, some .int, [])
theorem w_X9_number : xw m_X9_number ∈ lw_all := q2169
abbrev m_X9_isDigit : xM := (yX9_isDigit, cX9_isDigit, 1, some .boolean, [])
theorem w_X9_isDigit : xw m_X9_isDigit ∈ lw_all := q2172
abbrev m_X9_otherThing : xM := (yX9_otherThing, cX9_otherThing, 5, some .int, [])
theorem w_X9_otherThing : xw m_X9_otherThing ∈ lw_all := q2177
abbrev m_X9_sign : xM := (yX9_sign, cX9_sign, 2, none, [])
theorem w_X9_sign : xw m_X9_sign ∈ lw_all := q2181
abbrev m_X9_ends : xM := (yX9_ends, cX9_ends, 1, some .int, [])
theorem w_X9_ends : xw m_X9_ends ∈ lw_all := q2185
abbrev m_X9_law : xM := (yX9_law, cX9_law, 2, some .int, [])
theorem w_X9_law : xw m_X9_law ∈ lw_all := q2189
abbrev m_X9_sum : xM := (yX9_sum, cX9_sum, 2, none, [])
theorem w_X9_sum : xw m_X9_sum ∈ lw_all := q2193
abbrev m_X9_product : xM := (yX9_product, cX9_product, 2, none, [])
theorem w_X9_product : xw m_X9_product ∈ lw_all := q2197
abbrev m_X9_one : xM := (yX9_one, cX9_one, 3, none, [])
theorem w_X9_one : xw m_X9_one ∈ lw_all := q2201
abbrev m_X9_opensOne : xM := (yX9_opensOne, cX9_opensOne, 1, some .boolean, [])
theorem w_X9_opensOne : xw m_X9_opensOne ∈ lw_all := q2205
abbrev m_X9_notes : xM := (yX9_notes, cX9_notes, 3, none, [])
theorem w_X9_notes : xw m_X9_notes ∈ lw_all := q2209
abbrev m_X9_knownHere : xM := (yX9_knownHere, cX9_knownHere, 1, some .int, [])
theorem w_X9_knownHere : xw m_X9_knownHere ∈ lw_all := q2213
abbrev m_X9_takes : xM := (yX9_takes, cX9_takes, 8, some .boolean, [])
theorem w_X9_takes : xw m_X9_takes ∈ lw_all := q2217
abbrev m_X9_isSeven : xM := (yX9_isSeven, cX9_isSeven, 6, some .boolean, [])
theorem w_X9_isSeven : xw m_X9_isSeven ∈ lw_all := q2221
abbrev m_X9_takesSign : xM := (yX9_takesSign, cX9_takesSign, 3, some .boolean, [])
theorem w_X9_takesSign : xw m_X9_takesSign ∈ lw_all := q2225
abbrev m_X9_book : xM := (yX9_book, cX9_book, 7, some .int, [])
theorem w_X9_book : xw m_X9_book ∈ lw_all := q2229
abbrev m_X9_fault : xM := (yX9_fault, cX9_fault, 1, some .int, [])
theorem w_X9_fault : xw m_X9_fault ∈ lw_all := q2233
abbrev m_X9_work : xM := (yX9_work, cX9_work, 2, some .int, [])
theorem w_X9_work : xw m_X9_work ∈ lw_all := q2237
abbrev m_X9_readsStep : xM := (yX9_readsStep, cX9_readsStep, 3, none, [])
theorem w_X9_readsStep : xw m_X9_readsStep ∈ lw_all := q2241
abbrev m_X9_stepHere : xM := (yX9_stepHere, cX9_stepHere, 1, some .int, [])
theorem w_X9_stepHere : xw m_X9_stepHere ∈ lw_all := q2245
abbrev m_X9_copies : xM := (yX9_copies, cX9_copies, 3, none, [])
theorem w_X9_copies : xw m_X9_copies ∈ lw_all := q2248
abbrev m_X9_goes : xM := (yX9_goes, cX9_goes, 5, none, [])
theorem w_X9_goes : xw m_X9_goes ∈ lw_all := q2252
abbrev m_X9_does : xM := (yX9_does, cX9_does, 3, some .boolean, [])
theorem w_X9_does : xw m_X9_does ∈ lw_all := q2256
abbrev m_X9_weighs : xM := (yX9_weighs, cX9_weighs, 7, some .boolean, [])
theorem w_X9_weighs : xw m_X9_weighs ∈ lw_all := q2260
abbrev m_X9_standsIn : xM := (yX9_standsIn, cX9_standsIn, 6, some .int, [])
theorem w_X9_standsIn : xw m_X9_standsIn ∈ lw_all := q2264
abbrev m_X9_standsBy : xM := (yX9_standsBy, cX9_standsBy, 5, some .int, [])
theorem w_X9_standsBy : xw m_X9_standsBy ∈ lw_all := q2267
abbrev m_X9_isCry : xM := (yX9_isCry, cX9_isCry, 6, some .boolean, [])
theorem w_X9_isCry : xw m_X9_isCry ∈ lw_all := q2270
abbrev m_X9_cries : xM := (yX9_cries, cX9_cries, 6, none, [])
theorem w_X9_cries : xw m_X9_cries ∈ lw_all := q2273
abbrev m_X9_tips : xM := (yX9_tips, cX9_tips, 3, some .boolean, [])
theorem w_X9_tips : xw m_X9_tips ∈ lw_all := q2276
abbrev m_X9_feeds : xM := (yX9_feeds, cX9_feeds, 3, some .boolean, [])
theorem w_X9_feeds : xw m_X9_feeds ∈ lw_all := q2279
abbrev m_X9_less : xM := (yX9_less, cX9_less, 2, some .int, [])
theorem w_X9_less : xw m_X9_less ∈ lw_all := q2282
abbrev m_X9_dayEnds : xM := (yX9_dayEnds, cX9_dayEnds, 3, none, [])
theorem w_X9_dayEnds : xw m_X9_dayEnds ∈ lw_all := q2286
abbrev m_X9_wearOf : xM := (yX9_wearOf, cX9_wearOf, 3, some .int, [])
theorem w_X9_wearOf : xw m_X9_wearOf ∈ lw_all := q2290
abbrev m_X9_criesOf : xM := (yX9_criesOf, cX9_criesOf, 4, some .int, [])
theorem w_X9_criesOf : xw m_X9_criesOf ∈ lw_all := q2293
abbrev m_X9_ones : xM := (yX9_ones, cX9_ones, 3, some .int, [])
theorem w_X9_ones : xw m_X9_ones ∈ lw_all := q2296
abbrev m_X9_wearBy : xM := (yX9_wearBy, cX9_wearBy, 8, some .int, [])
theorem w_X9_wearBy : xw m_X9_wearBy ∈ lw_all := q2300
abbrev m_X9_byLaw : xM := (yX9_byLaw, cX9_byLaw, 3, some .int, [])
theorem w_X9_byLaw : xw m_X9_byLaw ∈ lw_all := q2304
abbrev m_X9_by : xM := (yX9_by, cX9_by, 3, some .int, [])
theorem w_X9_by : xw m_X9_by ∈ lw_all := q2307
abbrev m_X9_more : xM := (yX9_more, cX9_more, 2, some .int, [])
theorem w_X9_more : xw m_X9_more ∈ lw_all := q2310
abbrev m_X9_undo : xM := (yX9_undo, cX9_undo, 1, some .int, [])
theorem w_X9_undo : xw m_X9_undo ∈ lw_all := q2314
abbrev m_X9_told : xM := (yX9_told, cX9_told, 2, some .int, [])
theorem w_X9_told : xw m_X9_told ∈ lw_all := q2318
abbrev m_X9_weightIn : xM := (yX9_weightIn, cX9_weightIn, 4, some .int, [])
theorem w_X9_weightIn : xw m_X9_weightIn ∈ lw_all := q2322
abbrev m_X9_notSo : xM := (yX9_notSo, cX9_notSo, 4, some .int, [])
theorem w_X9_notSo : xw m_X9_notSo ∈ lw_all := q2325
abbrev m_X9_criedIn : xM := (yX9_criedIn, cX9_criedIn, 4, some .int, [])
theorem w_X9_criedIn : xw m_X9_criedIn ∈ lw_all := q2329
abbrev m_X9_thing : xM := (yX9_thing, cX9_thing, 3, some .int, [])
theorem w_X9_thing : xw m_X9_thing ∈ lw_all := q2333
abbrev m_X9_isThing : xM := (yX9_isThing, cX9_isThing, 2, some .boolean, [])
theorem w_X9_isThing : xw m_X9_isThing ∈ lw_all := q2337
abbrev m_X9_cry : xM := (yX9_cry, cX9_cry, 3, some .int, [])
theorem w_X9_cry : xw m_X9_cry ∈ lw_all := q2341
abbrev m_X9_stands : xM := (yX9_stands, cX9_stands, 5, some .int, [])
theorem w_X9_stands : xw m_X9_stands ∈ lw_all := q2345
abbrev m_X9_would : xM := (yX9_would, cX9_would, 8, some .int, [])
theorem w_X9_would : xw m_X9_would ∈ lw_all := q2349
abbrev m_X9_ahead : xM := (yX9_ahead, cX9_ahead, 4, some .int, [])
theorem w_X9_ahead : xw m_X9_ahead ∈ lw_all := q2353
abbrev m_X9_heaviestIn : xM := (yX9_heaviestIn, cX9_heaviestIn, 4, some .int, [])
theorem w_X9_heaviestIn : xw m_X9_heaviestIn ∈ lw_all := q2357
abbrev m_X9_worth : xM := (yX9_worth, cX9_worth, 4, some .long, [])
theorem w_X9_worth : xw m_X9_worth ∈ lw_all := q2361
abbrev m_X9_worths : xM := (yX9_worths, cX9_worths, 3, none, [])
theorem w_X9_worths : xw m_X9_worths ∈ lw_all := q2365
abbrev m_X9_chains : xM := (yX9_chains, cX9_chains, 11, none, [])
theorem w_X9_chains : xw m_X9_chains ∈ lw_all := q2369
abbrev m_X9_keeps : xM := (yX9_keeps, cX9_keeps, 5, none, [])
theorem w_X9_keeps : xw m_X9_keeps ∈ lw_all := q2373
abbrev m_X9_has : xM := (yX9_has, cX9_has, 2, some .boolean, [])
theorem w_X9_has : xw m_X9_has ∈ lw_all := q2376
abbrev m_X9_partOf : xM := (yX9_partOf, cX9_partOf, 11, some .long, [])
theorem w_X9_partOf : xw m_X9_partOf ∈ lw_all := q2379
abbrev m_X9_fattest : xM := (yX9_fattest, cX9_fattest, 2, some .long, [])
theorem w_X9_fattest : xw m_X9_fattest ∈ lw_all := q2383
abbrev m_X9_allRings : xM := (yX9_allRings, cX9_allRings, 2, none, [])
theorem w_X9_allRings : xw m_X9_allRings ∈ lw_all := q2387
abbrev m_X9_rings : xM := (yX9_rings, cX9_rings, 16, none, [])
theorem w_X9_rings : xw m_X9_rings ∈ lw_all := q2391
abbrev m_X9_fat : xM := (yX9_fat, cX9_fat, 1, some .int, [])
theorem w_X9_fat : xw m_X9_fat ∈ lw_all := q2395
abbrev m_X9_mend : xM := (yX9_mend, cX9_mend, 3, some .int, [])
theorem w_X9_mend : xw m_X9_mend ∈ lw_all := q2399
abbrev m_X9_isMended : xM := (yX9_isMended, cX9_isMended, 3, some .boolean, [])
theorem w_X9_isMended : xw m_X9_isMended ∈ lw_all := q2403
abbrev m_X9_above : xM := (yX9_above, cX9_above, 4, some .int, [])
theorem w_X9_above : xw m_X9_above ∈ lw_all := q2407
abbrev m_X9_match : xM := (yX9_match, cX9_match, 6, some .int, [])
theorem w_X9_match : xw m_X9_match ∈ lw_all := q2411
abbrev m_X9_isSet : xM := (yX9_isSet, cX9_isSet, 2, some .boolean, [])
theorem w_X9_isSet : xw m_X9_isSet ∈ lw_all := q2415
abbrev m_X9_everyThing : xM := (yX9_everyThing, cX9_everyThing, 1, some .int, [])
theorem w_X9_everyThing : xw m_X9_everyThing ∈ lw_all := q2419
abbrev m_X9_laysAmounts : xM := (yX9_laysAmounts, cX9_laysAmounts, 3, none, [])
theorem w_X9_laysAmounts : xw m_X9_laysAmounts ∈ lw_all := q2423
abbrev m_X9_laysFrom : xM := (yX9_laysFrom, cX9_laysFrom, 5, none, [])
theorem w_X9_laysFrom : xw m_X9_laysFrom ∈ lw_all := q2427
abbrev m_X9_fewest : xM := (yX9_fewest, cX9_fewest, 2, some .int, [])
theorem w_X9_fewest : xw m_X9_fewest ∈ lw_all := q2431
abbrev m_X9_level : xM := (yX9_level, cX9_level, 10, some .int, [])
theorem w_X9_level : xw m_X9_level ∈ lw_all := q2435
abbrev m_X9_heavy : xM := (yX9_heavy, cX9_heavy, 4, some .int, [])
theorem w_X9_heavy : xw m_X9_heavy ∈ lw_all := q2439
abbrev m_X9_fits : xM := (yX9_fits, cX9_fits, 5, some .int, [])
theorem w_X9_fits : xw m_X9_fits ∈ lw_all := q2443
abbrev m_X9_isBeam : xM := (yX9_isBeam, cX9_isBeam, 4, some .boolean, [])
theorem w_X9_isBeam : xw m_X9_isBeam ∈ lw_all := q2447
abbrev m_X9_look : xM := (yX9_look, cX9_look, 7, some .int, [])
theorem w_X9_look : xw m_X9_look ∈ lw_all := q2451
abbrev m_X9_worstOf : xM := (yX9_worstOf, cX9_worstOf, 4, some .int, [])
theorem w_X9_worstOf : xw m_X9_worstOf ∈ lw_all := q2455
abbrev m_X9_falsely : xM := (yX9_falsely, cX9_falsely, 4, some .int, [])
theorem w_X9_falsely : xw m_X9_falsely ∈ lw_all := q2459
abbrev m_X9_sellers : xM := (yX9_sellers, cX9_sellers, 9, some .int, [])
theorem w_X9_sellers : xw m_X9_sellers ∈ lw_all := q2463
abbrev m_X9_isBest : xM := (yX9_isBest, cX9_isBest, 4, some .boolean, [])
theorem w_X9_isBest : xw m_X9_isBest ∈ lw_all := q2466
abbrev m_X9_hasBy : xM := (yX9_hasBy, cX9_hasBy, 4, some .int, [])
theorem w_X9_hasBy : xw m_X9_hasBy ∈ lw_all := q2469
abbrev m_X9_even : xM := (yX9_even, cX9_even, 8, some .long, [])
theorem w_X9_even : xw m_X9_even ∈ lw_all := q2473
abbrev m_X9_share : xM := (yX9_share, cX9_share, 5, some .int, [])
theorem w_X9_share : xw m_X9_share ∈ lw_all := q2477
abbrev m_X9_givenBy : xM := (yX9_givenBy, cX9_givenBy, 5, some .int, [])
theorem w_X9_givenBy : xw m_X9_givenBy ∈ lw_all := q2481
abbrev m_X9_heaviest : xM := (yX9_heaviest, cX9_heaviest, 3, some .int, [])
theorem w_X9_heaviest : xw m_X9_heaviest ∈ lw_all := q2485
abbrev m_X9_alike : xM := (yX9_alike, cX9_alike, 6, some .int, [])
theorem w_X9_alike : xw m_X9_alike ∈ lw_all := q2489
abbrev m_X9_against : xM := (yX9_against, cX9_against, 4, some .int, [])
theorem w_X9_against : xw m_X9_against ∈ lw_all := q2493
abbrev m_X9_fair : xM := (yX9_fair, cX9_fair, 5, some .int, [])
theorem w_X9_fair : xw m_X9_fair ∈ lw_all := q2497
abbrev m_X9_isFair : xM := (yX9_isFair, cX9_isFair, 2, some .boolean, [])
theorem w_X9_isFair : xw m_X9_isFair ∈ lw_all := q2500
abbrev m_X9_fairBy : xM := (yX9_fairBy, cX9_fairBy, 7, none, [])
theorem w_X9_fairBy : xw m_X9_fairBy ∈ lw_all := q2504
abbrev m_X9_draw : xM := (yX9_draw, cX9_draw, 2, some .int, [])
theorem w_X9_draw : xw m_X9_draw ∈ lw_all := q2508
abbrev m_X9_span : xM := (yX9_span, cX9_span, 12, some .int, [])
theorem w_X9_span : xw m_X9_span ∈ lw_all := q2513
abbrev m_X9_image : xM := (yX9_image, cX9_image, 1, some .int, [])
theorem w_X9_image : xw m_X9_image ∈ lw_all := q2517
abbrev m_X9_putsAll : xM := (yX9_putsAll, cX9_putsAll, 5, none, [])
theorem w_X9_putsAll : xw m_X9_putsAll ∈ lw_all := q2521
abbrev m_X9_puts : xM := (yX9_puts, cX9_puts, 4, some .int, [])
theorem w_X9_puts : xw m_X9_puts ∈ lw_all := q2525
abbrev m_X9_restore : xM := (yX9_restore, cX9_restore, 1, some .int, [])
theorem w_X9_restore : xw m_X9_restore ∈ lw_all := q2529
abbrev m_X9_status : xM := (yX9_status, cX9_status, 2, some .int, [])
theorem w_X9_status : xw m_X9_status ∈ lw_all := q2533
abbrev m_X9_count : xM := (yX9_count, cX9_count, 2, some .int, [])
theorem w_X9_count : xw m_X9_count ∈ lw_all := q2537
abbrev m_X10_init : xM := (yX10_init, cX10_init, 3, none, [])
theorem w_X10_init : xw m_X10_init ∈ lw_all := q915
abbrev m_X10_sign : xM := (yX10_sign, cX10_sign, 1, some .int, [])
theorem w_X10_sign : xw m_X10_sign ∈ lw_all := q971
abbrev m_X10_word : xM := (yX10_word, cX10_word, 3, some (.object "java/lang/String"), [])
theorem w_X10_word : xw m_X10_word ∈ lw_all := q977
abbrev m_X10_wrong : xM := (yX10_wrong, cX10_wrong, 1, some (.object "LeaningMarket$Wrong"), [])
theorem w_X10_wrong : xw m_X10_wrong ∈ lw_all := q1084
abbrev m_X10_number : xM := (yX10_number, cX10_number, 5, some .int, [])
theorem w_X10_number : xw m_X10_number ∈ lw_all := q1126
abbrev m_X10_need : xM := (yX10_need, cX10_need, 2, none, [])
theorem w_X10_need : xw m_X10_need ∈ lw_all := q1187
abbrev m_X10_opens : xM := (yX10_opens, cX10_opens, 2, none, [])
theorem w_X10_opens : xw m_X10_opens ∈ lw_all := q1235
abbrev m_J5_init : xM := (yJ5_init, cJ5_init, 2, none, [])
theorem w_J5_init : xw m_J5_init ∈ lw_all := q445
abbrev m_J5_init_2 : xM := (yJ5_init_2, cJ5_init_2, 1, none, [])
theorem w_J5_init_2 : xw m_J5_init_2 ∈ lw_all := q900
abbrev m_X11_init : xM := (yX11_init, cX11_init, 3, none, [])
theorem w_X11_init : xw m_X11_init ∈ lw_all := q912
abbrev m_X11_pans : xM := (yX11_pans, cX11_pans, 5, some (.object "LeaningMarket$Cry"), [])
theorem w_X11_pans : xw m_X11_pans ∈ lw_all := q1135
abbrev m_X11_other : xM := (yX11_other, cX11_other, 4, some .int, [])
theorem w_X11_other : xw m_X11_other ∈ lw_all := q1147
abbrev m_X20_init : xM := (yX20_init, cX20_init, 3, none, [])
theorem w_X20_init : xw m_X20_init ∈ lw_all := q1314
abbrev m_X20_with : xM := (yX20_with, cX20_with, 3, some .int, [])
theorem w_X20_with : xw m_X20_with ∈ lw_all := q1559
abbrev m_J1_init : xM := (yJ1_init, cJ1_init, 1, none, [])
theorem w_J1_init : xw m_J1_init ∈ lw_all := q168
abbrev m_X28_init : xM := (yX28_init, cX28_init, 1, none, [])
theorem w_X28_init : xw m_X28_init ∈ lw_all := q1428
abbrev m_X28_isDone : xM := (yX28_isDone, cX28_isDone, 2, some .boolean, [])
theorem w_X28_isDone : xw m_X28_isDone ∈ lw_all := q1592
abbrev m_J19_init : xM := (yJ19_init, cJ19_init, 1, none, [])
theorem w_J19_init : xw m_J19_init ∈ lw_all := q154
abbrev m_J0_init : xM := (yJ0_init, cJ0_init, 1, none, [])
theorem w_J0_init : xw m_J0_init ∈ lw_all := q171
abbrev m_J10_newBytesFor : xM := (yJ10_newBytesFor, cJ10_newBytesFor, 1, some (.array .byte), [])
theorem w_J10_newBytesFor : xw m_J10_newBytesFor ∈ lw_all := q231
abbrev m_J10_newBytesLength : xM := (yJ10_newBytesLength, cJ10_newBytesLength, 1, some .int, [])
theorem w_J10_newBytesLength : xw m_J10_newBytesLength ∈ lw_all := q234
abbrev m_J10_putCharsAt : xM := (yJ10_putCharsAt, cJ10_putCharsAt, 7, some .int, [])
theorem w_J10_putCharsAt : xw m_J10_putCharsAt ∈ lw_all := q305
abbrev m_J10_checkBoundsBeginEnd : xM := (yJ10_checkBoundsBeginEnd, cJ10_checkBoundsBeginEnd, 3, none, [])
theorem w_J10_checkBoundsBeginEnd : xw m_J10_checkBoundsBeginEnd ∈ lw_all := q308
abbrev m_J10_length : xM := (yJ10_length, cJ10_length, 1, some .int, [])
theorem w_J10_length : xw m_J10_length ∈ lw_all := q311
abbrev m_J10_putChar : xM := (yJ10_putChar, cJ10_putChar, 3, none, [])
theorem w_J10_putChar : xw m_J10_putChar ∈ lw_all := q322
abbrev m_J10_inflate : xM := (yJ10_inflate, cJ10_inflate, 6, none, [])
theorem w_J10_inflate : xw m_J10_inflate ∈ lw_all := q356
abbrev m_J10_checkBoundsOffCount : xM := (yJ10_checkBoundsOffCount, cJ10_checkBoundsOffCount, 3, none, [])
theorem w_J10_checkBoundsOffCount : xw m_J10_checkBoundsOffCount ∈ lw_all := q359
abbrev m_J10_getChars : xM := (yJ10_getChars, cJ10_getChars, 5, some .int, [])
theorem w_J10_getChars : xw m_J10_getChars ∈ lw_all := q391
abbrev m_J10_getChars_2 : xM := (yJ10_getChars_2, cJ10_getChars_2, 7, some .int, [])
theorem w_J10_getChars_2 : xw m_J10_getChars_2 ∈ lw_all := q394
abbrev m_J10_compress : xM := (yJ10_compress, cJ10_compress, 6, some (.array .byte), [])
theorem w_J10_compress : xw m_J10_compress ∈ lw_all := q467
abbrev m_J10_compress_2 : xM := (yJ10_compress_2, cJ10_compress_2, 7, some .int, [])
theorem w_J10_compress_2 : xw m_J10_compress_2 ∈ lw_all := q470
abbrev m_J10_getChar : xM := (yJ10_getChar, cJ10_getChar, 2, some .char, [])
theorem w_J10_getChar : xw m_J10_getChar ∈ lw_all := q473
abbrev m_J10_coderFromArrayLen : xM := (yJ10_coderFromArrayLen, cJ10_coderFromArrayLen, 2, some .byte, [])
theorem w_J10_coderFromArrayLen : xw m_J10_coderFromArrayLen ∈ lw_all := q477
abbrev m_J10_putCharSB : xM := (yJ10_putCharSB, cJ10_putCharSB, 3, none, [])
theorem w_J10_putCharSB : xw m_J10_putCharSB ∈ lw_all := q994
abbrev m_J10_checkIndex : xM := (yJ10_checkIndex, cJ10_checkIndex, 2, none, [])
theorem w_J10_checkIndex : xw m_J10_checkIndex ∈ lw_all := q997
abbrev m_J10_hashCode : xM := (yJ10_hashCode, cJ10_hashCode, 1, some .int, [])
theorem w_J10_hashCode : xw m_J10_hashCode ∈ lw_all := q1066
abbrev m_X19_init : xM := (yX19_init, cX19_init, 3, none, [])
theorem w_X19_init : xw m_X19_init ∈ lw_all := q1305
abbrev m_X19_with : xM := (yX19_with, cX19_with, 3, some .int, [])
theorem w_X19_with : xw m_X19_with ∈ lw_all := q1549
abbrev m_J6_init : xM := (yJ6_init, cJ6_init, 2, none, [])
theorem w_J6_init : xw m_J6_init ∈ lw_all := q442
abbrev m_J6_init_2 : xM := (yJ6_init_2, cJ6_init_2, 1, none, [])
theorem w_J6_init_2 : xw m_J6_init_2 ∈ lw_all := q897
abbrev m_J3_init : xM := (yJ3_init, cJ3_init, 1, none, [])
theorem w_J3_init : xw m_J3_init ∈ lw_all := q201
abbrev m_J3_init_2 : xM := (yJ3_init_2, cJ3_init_2, 2, none, [])
theorem w_J3_init_2 : xw m_J3_init_2 ∈ lw_all := q451
abbrev m_J3_init_3 : xM := (yJ3_init_3, cJ3_init_3, 5, none, [])
theorem w_J3_init_3 : xw m_J3_init_3 ∈ lw_all := q1102
abbrev m_J12_max : xM := (yJ12_max, cJ12_max, 2, some .int, [])
theorem w_J12_max : xw m_J12_max ∈ lw_all := q276
abbrev m_J12_min : xM := (yJ12_min, cJ12_min, 2, some .int, [])
theorem w_J12_min : xw m_J12_min ∈ lw_all := q294
abbrev m_J12_abs : xM := (yJ12_abs, cJ12_abs, 1, some .int, [])
theorem w_J12_abs : xw m_J12_abs ∈ lw_all := q1828
abbrev m_X12_init : xM := (yX12_init, cX12_init, 3, none, [])
theorem w_X12_init : xw m_X12_init ∈ lw_all := q909
abbrev m_X12_reads : xM := (yX12_reads, cX12_reads, 1, some (.object "LeaningMarket$Told"), [])
theorem w_X12_reads : xw m_X12_reads ∈ lw_all := q965
abbrev m_X12_clause : xM := (yX12_clause, cX12_clause, 5, none, [])
theorem w_X12_clause : xw m_X12_clause ∈ lw_all := q1006
abbrev m_X12_isFull : xM := (yX12_isFull, cX12_isFull, 4, some .boolean, [])
theorem w_X12_isFull : xw m_X12_isFull ∈ lw_all := q1116
abbrev m_X4_init : xM := (yX4_init, cX4_init, 3, none, [])
theorem w_X4_init : xw m_X4_init ∈ lw_all := q567
abbrev m_X4_of : xM := (yX4_of, cX4_of, 2, some .int, [])
theorem w_X4_of : xw m_X4_of ∈ lw_all := q1531
abbrev m_X26_init : xM := (yX26_init, cX26_init, 2, none, [])
theorem w_X26_init : xw m_X26_init ∈ lw_all := q1405
abbrev m_X26_isDone : xM := (yX26_isDone, cX26_isDone, 2, some .boolean, [])
theorem w_X26_isDone : xw m_X26_isDone ∈ lw_all := q1576
abbrev m_J14_checkFromToIndex : xM := (yJ14_checkFromToIndex, cJ14_checkFromToIndex, 4, some .int, [])
theorem w_J14_checkFromToIndex : xw m_J14_checkFromToIndex ∈ lw_all := q319
abbrev m_J14_checkFromIndexSize : xM := (yJ14_checkFromIndexSize, cJ14_checkFromIndexSize, 4, some .int, [])
theorem w_J14_checkFromIndexSize : xw m_J14_checkFromIndexSize ∈ lw_all := q365
abbrev m_J14_checkIndex : xM := (yJ14_checkIndex, cJ14_checkIndex, 3, some .int, [])
theorem w_J14_checkIndex : xw m_J14_checkIndex ∈ lw_all := q659
abbrev m_X25_init : xM := (yX25_init, cX25_init, 2, none, [])
theorem w_X25_init : xw m_X25_init ∈ lw_all := q1386
abbrev m_X25_isDone : xM := (yX25_isDone, cX25_isDone, 2, some .boolean, [])
theorem w_X25_isDone : xw m_X25_isDone ∈ lw_all := q1599
abbrev m_X23_init : xM := (yX23_init, cX23_init, 1, none, [])
theorem w_X23_init : xw m_X23_init ∈ lw_all := q1392
abbrev m_X23_may : xM := (yX23_may, cX23_may, 1, some .boolean, [])
theorem w_X23_may : xw m_X23_may ∈ lw_all := q1478
abbrev m_J13_copyOf : xM := (yJ13_copyOf, cJ13_copyOf, 3, some (.array .byte), [])
theorem w_J13_copyOf : xw m_J13_copyOf ∈ lw_all := q284
abbrev m_J13_copyOfRange : xM := (yJ13_copyOfRange, cJ13_copyOfRange, 3, some (.array .byte), [])
theorem w_J13_copyOfRange : xw m_J13_copyOfRange ∈ lw_all := q426
abbrev m_J13_copyOfRangeByte : xM := (yJ13_copyOfRangeByte, cJ13_copyOfRangeByte, 5, some (.array .byte), [])
theorem w_J13_copyOfRangeByte : xw m_J13_copyOfRangeByte ∈ lw_all := q429
abbrev m_J13_checkLength : xM := (yJ13_checkLength, cJ13_checkLength, 2, none, [])
theorem w_J13_checkLength : xw m_J13_checkLength ∈ lw_all := q432
abbrev m_J13_copyOf_2 : xM := (yJ13_copyOf_2, cJ13_copyOf_2, 2, some (.array (.object "java/lang/Object")), [])
theorem w_J13_copyOf_2 : xw m_J13_copyOf_2 ∈ lw_all := q686
abbrev m_J13_copyOf_3 : xM := (yJ13_copyOf_3, cJ13_copyOf_3, 4, some (.array (.object "java/lang/Object")), [])
theorem w_J13_copyOf_3 : xw m_J13_copyOf_3 ∈ lw_all := q724
abbrev m_X24_init : xM := (yX24_init, cX24_init, 1, none, [])
theorem w_X24_init : xw m_X24_init ∈ lw_all := q1389
abbrev m_X24_goes : xM := (yX24_goes, cX24_goes, 3, none, [])
theorem w_X24_goes : xw m_X24_goes ∈ lw_all := q1484
abbrev m_X18_init : xM := (yX18_init, cX18_init, 3, none, [])
theorem w_X18_init : xw m_X18_init ∈ lw_all := q1294
abbrev m_X18_with : xM := (yX18_with, cX18_with, 3, some .int, [])
theorem w_X18_with : xw m_X18_with ∈ lw_all := q1562
abbrev m_J4_init : xM := (yJ4_init, cJ4_init, 2, none, [])
theorem w_J4_init : xw m_J4_init ∈ lw_all := q448
abbrev m_J4_init_2 : xM := (yJ4_init_2, cJ4_init_2, 1, none, [])
theorem w_J4_init_2 : xw m_J4_init_2 ∈ lw_all := q903
abbrev m_J4_init_3 : xM := (yJ4_init_3, cJ4_init_3, 5, none, [])
theorem w_J4_init_3 : xw m_J4_init_3 ∈ lw_all := q1099
abbrev m_J17_checkIndex : xM := (yJ17_checkIndex, cJ17_checkIndex, 2, some .int, [])
theorem w_J17_checkIndex : xw m_J17_checkIndex ∈ lw_all := q656
abbrev m_J8_init : xM := (yJ8_init, cJ8_init, 1, none, [])
theorem w_J8_init : xw m_J8_init ∈ lw_all := q222
abbrev m_J8_append : xM := (yJ8_append, cJ8_append, 2, some (.object "java/lang/StringBuilder"), [])
theorem w_J8_append : xw m_J8_append ∈ lw_all := q255
abbrev m_J8_append_2 : xM := (yJ8_append_2, cJ8_append_2, 2, some (.object "java/lang/StringBuilder"), [])
theorem w_J8_append_2 : xw m_J8_append_2 ∈ lw_all := q375
abbrev m_J8_toString : xM := (yJ8_toString, cJ8_toString, 1, some (.object "java/lang/String"), [])
theorem w_J8_toString : xw m_J8_toString ∈ lw_all := q400
abbrev m_J8_length : xM := (yJ8_length, cJ8_length, 1, some .int, [])
theorem w_J8_length : xw m_J8_length ∈ lw_all := q420
abbrev m_J8_append_3 : xM := (yJ8_append_3, cJ8_append_3, 2, some (.object "java/lang/StringBuilder"), [])
theorem w_J8_append_3 : xw m_J8_append_3 ∈ lw_all := q985
abbrev m_J18_init : xM := (yJ18_init, cJ18_init, 1, none, [])
theorem w_J18_init : xw m_J18_init ∈ lw_all := q1727
abbrev m_X30_init : xM := (yX30_init, cX30_init, 2, none, [])
theorem w_X30_init : xw m_X30_init ∈ lw_all := q1449
abbrev m_X30_goes : xM := (yX30_goes, cX30_goes, 4, none, [])
theorem w_X30_goes : xw m_X30_goes ∈ lw_all := q1474
abbrev m_X17_init : xM := (yX17_init, cX17_init, 3, none, [])
theorem w_X17_init : xw m_X17_init ∈ lw_all := q1282
abbrev m_X17_with : xM := (yX17_with, cX17_with, 3, some .int, [])
theorem w_X17_with : xw m_X17_with ∈ lw_all := q1555
abbrev m_X15_init : xM := (yX15_init, cX15_init, 3, none, [])
theorem w_X15_init : xw m_X15_init ∈ lw_all := q1203
abbrev m_X15_reads : xM := (yX15_reads, cX15_reads, 2, some (.object "LeaningMarket$Term"), [])
theorem w_X15_reads : xw m_X15_reads ∈ lw_all := q1214
abbrev m_X15_sum : xM := (yX15_sum, cX15_sum, 4, some (.object "LeaningMarket$Term"), [])
theorem w_X15_sum : xw m_X15_sum ∈ lw_all := q1218
abbrev m_X15_product : xM := (yX15_product, cX15_product, 4, some (.object "LeaningMarket$Term"), [])
theorem w_X15_product : xw m_X15_product ∈ lw_all := q1222
abbrev m_X15_unit : xM := (yX15_unit, cX15_unit, 5, some (.object "LeaningMarket$Term"), [])
theorem w_X15_unit : xw m_X15_unit ∈ lw_all := q1226
abbrev m_X15_fact : xM := (yX15_fact, cX15_fact, 3, some (.object "LeaningMarket$Term"), [])
theorem w_X15_fact : xw m_X15_fact ∈ lw_all := q1261
abbrev m_X15_two : xM := (yX15_two, cX15_two, 4, some (.object "LeaningMarket$Term"), [])
theorem w_X15_two : xw m_X15_two ∈ lw_all := q1268
abbrev m_J11_newLength : xM := (yJ11_newLength, cJ11_newLength, 4, some .int, [])
theorem w_J11_newLength : xw m_J11_newLength ∈ lw_all := q273
abbrev m_J11_hugeLength : xM := (yJ11_hugeLength, cJ11_hugeLength, 3, some .int, [])
theorem w_J11_hugeLength : xw m_J11_hugeLength ∈ lw_all := q280
abbrev m_J11_vectorizedHashCode : xM := (yJ11_vectorizedHashCode, cJ11_vectorizedHashCode, 5, some .int, [])
theorem w_J11_vectorizedHashCode : xw m_J11_vectorizedHashCode ∈ lw_all := q1020
abbrev m_J11_signedHashCode : xM := (yJ11_signedHashCode, cJ11_signedHashCode, 6, some .int, [])
theorem w_J11_signedHashCode : xw m_J11_signedHashCode ∈ lw_all := q1024
abbrev m_J11_utf16hashCode : xM := (yJ11_utf16hashCode, cJ11_utf16hashCode, 6, some .int, [])
theorem w_J11_utf16hashCode : xw m_J11_utf16hashCode ∈ lw_all := q1027
abbrev m_J11_hashCode : xM := (yJ11_hashCode, cJ11_hashCode, 6, some .int, [])
theorem w_J11_hashCode : xw m_J11_hashCode ∈ lw_all := q1044
abbrev m_J11_hashCode_2 : xM := (yJ11_hashCode_2, cJ11_hashCode_2, 6, some .int, [])
theorem w_J11_hashCode_2 : xw m_J11_hashCode_2 ∈ lw_all := q1047
abbrev m_J11_hashCode_3 : xM := (yJ11_hashCode_3, cJ11_hashCode_3, 6, some .int, [])
theorem w_J11_hashCode_3 : xw m_J11_hashCode_3 ∈ lw_all := q1051
abbrev m_J11_hashCode_4 : xM := (yJ11_hashCode_4, cJ11_hashCode_4, 6, some .int, [])
theorem w_J11_hashCode_4 : xw m_J11_hashCode_4 ∈ lw_all := q1055
abbrev m_J2_init : xM := (yJ2_init, cJ2_init, 2, none, [])
theorem w_J2_init : xw m_J2_init ∈ lw_all := q165
abbrev m_J2_clear : xM := (yJ2_clear, cJ2_clear, 4, none, [])
theorem w_J2_clear : xw m_J2_clear ∈ lw_all := q645
abbrev m_J2_size : xM := (yJ2_size, cJ2_size, 1, some .int, [])
theorem w_J2_size : xw m_J2_size ∈ lw_all := q649
abbrev m_J2_get : xM := (yJ2_get, cJ2_get, 2, some (.object "java/lang/Object"), [])
theorem w_J2_get : xw m_J2_get ∈ lw_all := q653
abbrev m_J2_elementData : xM := (yJ2_elementData, cJ2_elementData, 2, some (.object "java/lang/Object"), [])
theorem w_J2_elementData : xw m_J2_elementData ∈ lw_all := q663
abbrev m_J2_add : xM := (yJ2_add, cJ2_add, 2, some .boolean, [])
theorem w_J2_add : xw m_J2_add ∈ lw_all := q668
abbrev m_J2_add_2 : xM := (yJ2_add_2, cJ2_add_2, 4, none, [])
theorem w_J2_add_2 : xw m_J2_add_2 ∈ lw_all := q672
abbrev m_J2_grow : xM := (yJ2_grow, cJ2_grow, 1, some (.array (.object "java/lang/Object")), [])
theorem w_J2_grow : xw m_J2_grow ∈ lw_all := q676
abbrev m_J2_grow_2 : xM := (yJ2_grow_2, cJ2_grow_2, 4, some (.array (.object "java/lang/Object")), [])
theorem w_J2_grow_2 : xw m_J2_grow_2 ∈ lw_all := q680
abbrev m_J2_remove : xM := (yJ2_remove, cJ2_remove, 4, some (.object "java/lang/Object"), [])
theorem w_J2_remove : xw m_J2_remove ∈ lw_all := q1584
abbrev m_J2_fastRemove : xM := (yJ2_fastRemove, cJ2_fastRemove, 4, none, [])
theorem w_J2_fastRemove : xw m_J2_fastRemove ∈ lw_all := q1588
theorem i_J0_1 : xLI RJ0 1 m_J19_init 0 := ⟨Or.inl q172, q153, q154, w_J19_init, q2560, ⟨by decide, by decide⟩, rfl, rfl, by decide⟩
theorem i_J1_1 : xLI RJ1 1 m_J0_init 0 := ⟨Or.inl q169, q170, q171, w_J0_init, q97, ⟨by decide, by decide⟩, rfl, rfl, by decide⟩
theorem p_J1_7_2 : xFldP RJ1 7 2 0 .int false := ⟨RJ2, TJ2, 3, "java/util/AbstractList", tyJ2, rfl, by decide, by decide, in_J2, Or.inl q494, Or.inl rfl, tyJ2_ok, nmJ2, rfl, (fun h => nomatch h), rfl⟩
theorem s_J10_11 : xLS RJ10 11 m_J10_newBytesLength 1 := ⟨Or.inl q232, q233, q107, w_J10_newBytesLength, ⟨by decide, by decide⟩, rfl, by decide⟩
theorem s_J10_48 : xLS RJ10 48 m_J10_length 1 := ⟨Or.inl q309, q310, q107, w_J10_length, ⟨by decide, by decide⟩, rfl, by decide⟩
theorem s_J10_67 : xLS RJ10 67 m_J10_checkIndex 2 := ⟨Or.inl q995, q996, q107, w_J10_checkIndex, ⟨by decide, by decide⟩, rfl, by decide⟩
theorem s_J10_71 : xLS RJ10 71 m_J10_getChar 2 := ⟨Or.inl q471, q472, q107, w_J10_getChar, ⟨by decide, by decide⟩, rfl, by decide⟩
theorem s_J10_96 : xLS RJ10 96 m_J10_checkBoundsBeginEnd 3 := ⟨Or.inl q306, q307, q107, w_J10_checkBoundsBeginEnd, ⟨by decide, by decide⟩, rfl, by decide⟩
theorem s_J10_111 : xLS RJ10 111 m_J10_putChar 3 := ⟨Or.inl q320, q321, q107, w_J10_putChar, ⟨by decide, by decide⟩, rfl, by decide⟩
theorem s_J10_123 : xLS RJ10 123 m_J10_compress_2 5 := ⟨Or.inl q468, q469, q107, w_J10_compress_2, ⟨by decide, by decide⟩, rfl, by decide⟩
theorem s_J10_126 : xLS RJ10 126 m_J13_copyOfRange 3 := ⟨Or.inl q474, q425, q110, w_J13_copyOfRange, ⟨by decide, by decide⟩, rfl, by decide⟩
theorem s_J10_173 : xLS RJ10 173 m_J10_checkBoundsOffCount 3 := ⟨Or.inl q357, q358, q107, w_J10_checkBoundsOffCount, ⟨by decide, by decide⟩, rfl, by decide⟩
theorem s_J10_220 : xLS RJ10 220 m_J11_vectorizedHashCode 5 := ⟨Or.inl q1067, q1019, q108, w_J11_vectorizedHashCode, ⟨by decide, by decide⟩, rfl, by decide⟩
theorem s_J10_241 : xLS RJ10 241 m_J9_checkBoundsBeginEnd 3 := ⟨Or.inl q312, q313, q106, w_J9_checkBoundsBeginEnd, ⟨by decide, by decide⟩, rfl, by decide⟩
theorem s_J10_393 : xLS RJ10 393 m_J10_getChars_2 3 := ⟨Or.inl q392, q393, q107, w_J10_getChars_2, ⟨by decide, by decide⟩, rfl, by decide⟩
theorem s_J10_414 : xLS RJ10 414 m_J9_checkIndex 2 := ⟨Or.inl q998, q999, q106, w_J9_checkIndex, ⟨by decide, by decide⟩, rfl, by decide⟩
theorem s_J10_419 : xLS RJ10 419 m_J9_checkBoundsOffCount 3 := ⟨Or.inl q360, q361, q106, w_J9_checkBoundsOffCount, ⟨by decide, by decide⟩, rfl, by decide⟩
theorem s_J11_62 : xLS RJ11 62 m_J11_signedHashCode 4 := ⟨Or.inl q1022, q1023, q108, w_J11_signedHashCode, ⟨by decide, by decide⟩, rfl, by decide⟩
theorem s_J11_66 : xLS RJ11 66 m_J11_utf16hashCode 4 := ⟨Or.inl q1025, q1026, q108, w_J11_utf16hashCode, ⟨by decide, by decide⟩, rfl, by decide⟩
theorem s_J11_71 : xLS RJ11 71 m_J11_hashCode 4 := ⟨Or.inl q1042, q1043, q108, w_J11_hashCode, ⟨by decide, by decide⟩, rfl, by decide⟩
theorem s_J11_75 : xLS RJ11 75 m_J11_hashCode_2 4 := ⟨Or.inl q1045, q1046, q108, w_J11_hashCode_2, ⟨by decide, by decide⟩, rfl, by decide⟩
theorem s_J11_79 : xLS RJ11 79 m_J11_hashCode_3 4 := ⟨Or.inl q1049, q1050, q108, w_J11_hashCode_3, ⟨by decide, by decide⟩, rfl, by decide⟩
theorem s_J11_84 : xLS RJ11 84 m_J11_hashCode_4 4 := ⟨Or.inl q1053, q1054, q108, w_J11_hashCode_4, ⟨by decide, by decide⟩, rfl, by decide⟩
theorem n_J11_87 : xNew RJ11 87 28 6 [.null, .null, .null, .null, .null, .int 0] := ⟨RJ6, TJ6, tyJ6, rfl, by decide, in_J6, tyJ6_ok, q1056, q178, q103, rfl, by decide +kernel⟩
theorem n_J11_89 : xNew RJ11 89 25 4 [.null, .int 0, .int 0, .int 0] := ⟨RJ8, TJ8, tyJ8, rfl, by decide, in_J8, tyJ8_ok, q1057, q219, q105, rfl, by decide +kernel⟩
theorem i_J11_91 : xLI RJ11 91 m_J8_init 0 := ⟨Or.inl q1058, q221, q222, w_J8_init, q105, ⟨by decide, by decide⟩, rfl, rfl, by decide⟩
theorem v_J11_94_25 : xLV RJ11 94 m_J8_append 25 1 := ⟨RJ8, TJ8, 4, rfl, by decide, Or.inl ⟨q1060, q254, ⟨by decide, by decide⟩, rfl⟩, q253, q105, w_J8_append, by decide⟩
theorem v_J11_98_25 : xLV RJ11 98 m_J8_append_2 25 1 := ⟨RJ8, TJ8, 4, rfl, by decide, Or.inl ⟨q1061, q374, ⟨by decide, by decide⟩, rfl⟩, q373, q105, w_J8_append_2, by decide⟩
theorem v_J11_101_25 : xLV RJ11 101 m_J8_toString 25 0 := ⟨RJ8, TJ8, 4, rfl, by decide, Or.inl ⟨q1062, q399, ⟨by decide, by decide⟩, rfl⟩, q398, q105, w_J8_toString, by decide⟩
theorem i_J11_105 : xLI RJ11 105 m_J6_init 1 := ⟨Or.inl q1063, q441, q442, w_J6_init, q103, ⟨by decide, by decide⟩, rfl, rfl, by decide⟩
theorem s_J11_194 : xLS RJ11 194 m_J12_max 2 := ⟨Or.inl q274, q275, q109, w_J12_max, ⟨by decide, by decide⟩, rfl, by decide⟩
theorem s_J11_201 : xLS RJ11 201 m_J11_hugeLength 2 := ⟨Or.inl q278, q279, q108, w_J11_hugeLength, ⟨by decide, by decide⟩, rfl, by decide⟩
theorem n_J13_43 : xNew RJ13 43 28 6 [.null, .null, .null, .null, .null, .int 0] := ⟨RJ6, TJ6, tyJ6, rfl, by decide, in_J6, tyJ6_ok, q433, q178, q103, rfl, by decide +kernel⟩
theorem n_J13_45 : xNew RJ13 45 25 4 [.null, .int 0, .int 0, .int 0] := ⟨RJ8, TJ8, tyJ8, rfl, by decide, in_J8, tyJ8_ok, q434, q219, q105, rfl, by decide +kernel⟩
theorem i_J13_47 : xLI RJ13 47 m_J8_init 0 := ⟨Or.inl q435, q221, q222, w_J8_init, q105, ⟨by decide, by decide⟩, rfl, rfl, by decide⟩
theorem v_J13_50_25 : xLV RJ13 50 m_J8_append 25 1 := ⟨RJ8, TJ8, 4, rfl, by decide, Or.inl ⟨q438, q254, ⟨by decide, by decide⟩, rfl⟩, q253, q105, w_J8_append, by decide⟩
theorem v_J13_54_25 : xLV RJ13 54 m_J8_append_2 25 1 := ⟨RJ8, TJ8, 4, rfl, by decide, Or.inl ⟨q436, q374, ⟨by decide, by decide⟩, rfl⟩, q373, q105, w_J8_append_2, by decide⟩
theorem v_J13_61_25 : xLV RJ13 61 m_J8_toString 25 0 := ⟨RJ8, TJ8, 4, rfl, by decide, Or.inl ⟨q439, q399, ⟨by decide, by decide⟩, rfl⟩, q398, q105, w_J8_toString, by decide⟩
theorem i_J13_65 : xLI RJ13 65 m_J6_init 1 := ⟨Or.inl q440, q441, q442, w_J6_init, q103, ⟨by decide, by decide⟩, rfl, rfl, by decide⟩
theorem s_J13_300 : xLS RJ13 300 m_J13_copyOf_3 3 := ⟨Or.inl q722, q723, q110, w_J13_copyOf_3, ⟨by decide, by decide⟩, rfl, by decide⟩
theorem s_J13_304 : xLS RJ13 304 m_J12_min 2 := ⟨Or.inl q292, q293, q109, w_J12_min, ⟨by decide, by decide⟩, rfl, by decide⟩
theorem s_J13_339 : xLS RJ13 339 m_J13_copyOfRangeByte 3 := ⟨Or.inl q427, q428, q110, w_J13_copyOfRangeByte, ⟨by decide, by decide⟩, rfl, by decide⟩
theorem s_J13_343 : xLS RJ13 343 m_J13_checkLength 2 := ⟨Or.inl q430, q431, q110, w_J13_checkLength, ⟨by decide, by decide⟩, rfl, by decide⟩
theorem s_J15_84 : xLS RJ15 84 m_J11_vectorizedHashCode 5 := ⟨Or.inl q1018, q1019, q108, w_J11_vectorizedHashCode, ⟨by decide, by decide⟩, rfl, by decide⟩
theorem s_J15_240 : xLS RJ15 240 m_J10_inflate 5 := ⟨Or.inl q354, q355, q107, w_J10_inflate, ⟨by decide, by decide⟩, rfl, by decide⟩
theorem s_J17_105 : xLS RJ17 105 m_J14_checkIndex 3 := ⟨Or.inl q657, q658, q112, w_J14_checkIndex, ⟨by decide, by decide⟩, rfl, by decide⟩
theorem i_J18_1 : xLI RJ18 1 m_J5_init_2 0 := ⟨Or.inl q1728, q899, q900, w_J5_init_2, q102, ⟨by decide, by decide⟩, rfl, rfl, by decide⟩
theorem i_J2_1 : xLI RJ2 1 m_J1_init 0 := ⟨Or.inl q166, q167, q168, w_J1_init, q98, ⟨by decide, by decide⟩, rfl, rfl, by decide⟩
theorem f_J2_9_2 : xFld RJ2 9 2 1 := ⟨RJ2, TJ2, 3, "java/util/ArrayList", rfl, by decide, by decide, in_J2, Or.inl q492, Or.inl rfl⟩
theorem p_J2_9_2 : xFldP RJ2 9 2 1 (.array (.object "java/lang/Object")) false := ⟨RJ2, TJ2, 3, "java/util/ArrayList", tyJ2, rfl, by decide, by decide, in_J2, Or.inl q492, Or.inl rfl, tyJ2_ok, nmJ2, rfl, (fun h => nomatch h), rfl⟩
theorem n_J2_18 : xNew RJ2 18 28 6 [.null, .null, .null, .null, .null, .int 0] := ⟨RJ6, TJ6, tyJ6, rfl, by decide, in_J6, tyJ6_ok, q177, q178, q103, rfl, by decide +kernel⟩
theorem n_J2_20 : xNew RJ2 20 25 4 [.null, .int 0, .int 0, .int 0] := ⟨RJ8, TJ8, tyJ8, rfl, by decide, in_J8, tyJ8_ok, q218, q219, q105, rfl, by decide +kernel⟩
theorem i_J2_22 : xLI RJ2 22 m_J8_init 0 := ⟨Or.inl q220, q221, q222, w_J8_init, q105, ⟨by decide, by decide⟩, rfl, rfl, by decide⟩
theorem v_J2_25_25 : xLV RJ2 25 m_J8_append 25 1 := ⟨RJ8, TJ8, 4, rfl, by decide, Or.inl ⟨q252, q254, ⟨by decide, by decide⟩, rfl⟩, q253, q105, w_J8_append, by decide⟩
theorem v_J2_29_25 : xLV RJ2 29 m_J8_append_2 25 1 := ⟨RJ8, TJ8, 4, rfl, by decide, Or.inl ⟨q372, q374, ⟨by decide, by decide⟩, rfl⟩, q373, q105, w_J8_append_2, by decide⟩
theorem v_J2_32_25 : xLV RJ2 32 m_J8_toString 25 0 := ⟨RJ8, TJ8, 4, rfl, by decide, Or.inl ⟨q397, q399, ⟨by decide, by decide⟩, rfl⟩, q398, q105, w_J8_toString, by decide⟩
theorem i_J2_36 : xLI RJ2 36 m_J6_init 1 := ⟨Or.inl q491, q441, q442, w_J6_init, q103, ⟨by decide, by decide⟩, rfl, rfl, by decide⟩
theorem f_J2_48_2 : xFld RJ2 48 2 2 := ⟨RJ2, TJ2, 3, "java/util/ArrayList", rfl, by decide, by decide, in_J2, Or.inl q493, Or.inl rfl⟩
theorem p_J2_48_2 : xFldP RJ2 48 2 2 .int false := ⟨RJ2, TJ2, 3, "java/util/ArrayList", tyJ2, rfl, by decide, by decide, in_J2, Or.inl q493, Or.inl rfl, tyJ2_ok, nmJ2, rfl, (fun h => nomatch h), rfl⟩
theorem f_J2_63_2 : xFld RJ2 63 2 0 := ⟨RJ2, TJ2, 3, "java/util/ArrayList", rfl, by decide, by decide, in_J2, Or.inl q495, Or.inr q496⟩
theorem p_J2_63_2 : xFldP RJ2 63 2 0 .int false := ⟨RJ2, TJ2, 3, "java/util/ArrayList", tyJ2, rfl, by decide, by decide, in_J2, Or.inl q495, Or.inr q496, tyJ2_ok, nmJ2, rfl, (fun h => nomatch h), rfl⟩
theorem s_J2_66 : xLS RJ2 66 m_J13_copyOf_2 2 := ⟨Or.inl q684, q685, q110, w_J13_copyOf_2, ⟨by decide, by decide⟩, rfl, by decide⟩
theorem v_J2_69_2 : xLV RJ2 69 m_J2_grow_2 2 1 := ⟨RJ2, TJ2, 3, rfl, by decide, Or.inl ⟨q677, qs5, ⟨by decide, by decide⟩, rfl⟩, q679, q99, w_J2_grow_2, by decide⟩
theorem s_J2_73 : xLS RJ2 73 m_J11_newLength 3 := ⟨Or.inl q683, q272, q108, w_J11_newLength, ⟨by decide, by decide⟩, rfl, by decide⟩
theorem s_J2_79 : xLS RJ2 79 m_J12_max 2 := ⟨Or.inl q727, q275, q109, w_J12_max, ⟨by decide, by decide⟩, rfl, by decide⟩
theorem s_J2_118 : xLS RJ2 118 m_J17_checkIndex 2 := ⟨Or.inl q654, q655, q122, w_J17_checkIndex, ⟨by decide, by decide⟩, rfl, by decide⟩
theorem v_J2_123_2 : xLV RJ2 123 m_J2_elementData 2 1 := ⟨RJ2, TJ2, 3, rfl, by decide, Or.inl ⟨q660, q662, ⟨by decide, by decide⟩, rfl⟩, q661, q99, w_J2_elementData, by decide⟩
theorem v_J2_129_2 : xLV RJ2 129 m_J2_grow 2 0 := ⟨RJ2, TJ2, 3, rfl, by decide, Or.inl ⟨q673, qs4, ⟨by decide, by decide⟩, rfl⟩, q675, q99, w_J2_grow, by decide⟩
theorem v_J2_131_2 : xLV RJ2 131 m_J2_add_2 2 3 := ⟨RJ2, TJ2, 3, rfl, by decide, Or.inl ⟨q669, qs3, ⟨by decide, by decide⟩, rfl⟩, q671, q99, w_J2_add_2, by decide⟩
theorem v_J2_144_2 : xLV RJ2 144 m_J2_fastRemove 2 2 := ⟨RJ2, TJ2, 3, rfl, by decide, Or.inl ⟨q1585, qs24, ⟨by decide, by decide⟩, rfl⟩, q1587, q99, w_J2_fastRemove, by decide⟩
theorem s_J20_185 : xLS RJ20 185 m_J10_getChar 2 := ⟨Or.inl q1040, q472, q107, w_J10_getChar, ⟨by decide, by decide⟩, rfl, by decide⟩
theorem i_J3_1 : xLI RJ3 1 m_J19_init 0 := ⟨Or.inl q202, q153, q154, w_J19_init, q2560, ⟨by decide, by decide⟩, rfl, rfl, by decide⟩
theorem p_J3_7_14 : xFldP RJ3 7 14 0 (.object "java/lang/Throwable") false := ⟨RX13, TX13, 8, "java/lang/Throwable", tyX13, rfl, by decide, by decide, in_X13, Or.inl q454, Or.inl rfl, tyX13_ok, nmX13, rfl, (fun h => nomatch h), rfl⟩
theorem p_J3_7_28 : xFldP RJ3 7 28 0 (.object "java/lang/Throwable") false := ⟨RJ6, TJ6, 6, "java/lang/Throwable", tyJ6, rfl, by decide, by decide, in_J6, Or.inl q454, Or.inl rfl, tyJ6_ok, nmJ6, rfl, (fun h => nomatch h), rfl⟩
theorem p_J3_7_29 : xFldP RJ3 7 29 0 (.object "java/lang/Throwable") false := ⟨RJ18, TJ18, 6, "java/lang/Throwable", tyJ18, rfl, by decide, by decide, in_J18, Or.inl q454, Or.inl rfl, tyJ18_ok, nmJ18, rfl, (fun h => nomatch h), rfl⟩
theorem p_J3_17_14 : xFldP RJ3 17 14 1 (.array (.object "java/lang/StackTraceElement")) false := ⟨RX13, TX13, 8, "java/lang/Throwable", tyX13, rfl, by decide, by decide, in_X13, Or.inl q455, Or.inl rfl, tyX13_ok, nmX13, rfl, (fun h => nomatch h), rfl⟩
theorem p_J3_17_28 : xFldP RJ3 17 28 1 (.array (.object "java/lang/StackTraceElement")) false := ⟨RJ6, TJ6, 6, "java/lang/Throwable", tyJ6, rfl, by decide, by decide, in_J6, Or.inl q455, Or.inl rfl, tyJ6_ok, nmJ6, rfl, (fun h => nomatch h), rfl⟩
theorem p_J3_17_29 : xFldP RJ3 17 29 1 (.array (.object "java/lang/StackTraceElement")) false := ⟨RJ18, TJ18, 6, "java/lang/Throwable", tyJ18, rfl, by decide, by decide, in_J18, Or.inl q455, Or.inl rfl, tyJ18_ok, nmJ18, rfl, (fun h => nomatch h), rfl⟩
theorem p_J3_24_14 : xFldP RJ3 24 14 2 (.object "java/util/List") false := ⟨RX13, TX13, 8, "java/lang/Throwable", tyX13, rfl, by decide, by decide, in_X13, Or.inl q456, Or.inl rfl, tyX13_ok, nmX13, rfl, (fun h => nomatch h), rfl⟩
theorem p_J3_24_28 : xFldP RJ3 24 28 2 (.object "java/util/List") false := ⟨RJ6, TJ6, 6, "java/lang/Throwable", tyJ6, rfl, by decide, by decide, in_J6, Or.inl q456, Or.inl rfl, tyJ6_ok, nmJ6, rfl, (fun h => nomatch h), rfl⟩
theorem p_J3_24_29 : xFldP RJ3 24 29 2 (.object "java/util/List") false := ⟨RJ18, TJ18, 6, "java/lang/Throwable", tyJ18, rfl, by decide, by decide, in_J18, Or.inl q456, Or.inl rfl, tyJ18_ok, nmJ18, rfl, (fun h => nomatch h), rfl⟩
theorem p_J3_31_14 : xFldP RJ3 31 14 3 (.object "java/lang/String") false := ⟨RX13, TX13, 8, "java/lang/Throwable", tyX13, rfl, by decide, by decide, in_X13, Or.inl q453, Or.inl rfl, tyX13_ok, nmX13, rfl, (fun h => nomatch h), rfl⟩
theorem p_J3_31_28 : xFldP RJ3 31 28 3 (.object "java/lang/String") false := ⟨RJ6, TJ6, 6, "java/lang/Throwable", tyJ6, rfl, by decide, by decide, in_J6, Or.inl q453, Or.inl rfl, tyJ6_ok, nmJ6, rfl, (fun h => nomatch h), rfl⟩
theorem p_J3_31_29 : xFldP RJ3 31 29 3 (.object "java/lang/String") false := ⟨RJ18, TJ18, 6, "java/lang/Throwable", tyJ18, rfl, by decide, by decide, in_J18, Or.inl q453, Or.inl rfl, tyJ18_ok, nmJ18, rfl, (fun h => nomatch h), rfl⟩
theorem i_J4_1 : xLI RJ4 1 m_J3_init 0 := ⟨Or.inl q904, q200, q201, w_J3_init, q100, ⟨by decide, by decide⟩, rfl, rfl, by decide⟩
theorem i_J4_7 : xLI RJ4 7 m_J3_init_2 1 := ⟨Or.inl q449, q450, q451, w_J3_init_2, q100, ⟨by decide, by decide⟩, rfl, rfl, by decide⟩
theorem i_J4_16 : xLI RJ4 16 m_J3_init_3 4 := ⟨Or.inl q1100, q1101, q1102, w_J3_init_3, q100, ⟨by decide, by decide⟩, rfl, rfl, by decide⟩
theorem i_J5_1 : xLI RJ5 1 m_J4_init_2 0 := ⟨Or.inl q901, q902, q903, w_J4_init_2, q101, ⟨by decide, by decide⟩, rfl, rfl, by decide⟩
theorem i_J5_7 : xLI RJ5 7 m_J4_init 1 := ⟨Or.inl q446, q447, q448, w_J4_init, q101, ⟨by decide, by decide⟩, rfl, rfl, by decide⟩
theorem i_J6_1 : xLI RJ6 1 m_J5_init_2 0 := ⟨Or.inl q898, q899, q900, w_J5_init_2, q102, ⟨by decide, by decide⟩, rfl, rfl, by decide⟩
theorem i_J6_7 : xLI RJ6 7 m_J5_init 1 := ⟨Or.inl q443, q444, q445, w_J5_init, q102, ⟨by decide, by decide⟩, rfl, rfl, by decide⟩
theorem i_J7_3 : xLI RJ7 3 m_J19_init 0 := ⟨Or.inl q226, q153, q154, w_J19_init, q2560, ⟨by decide, by decide⟩, rfl, rfl, by decide⟩
theorem f_J7_15_25 : xFld RJ7 15 25 0 := ⟨RJ8, TJ8, 4, "java/lang/AbstractStringBuilder", rfl, by decide, by decide, in_J8, Or.inl q236, Or.inl rfl⟩
theorem p_J7_15_25 : xFldP RJ7 15 25 0 (.array .byte) false := ⟨RJ8, TJ8, 4, "java/lang/AbstractStringBuilder", tyJ8, rfl, by decide, by decide, in_J8, Or.inl q236, Or.inl rfl, tyJ8_ok, nmJ8, rfl, (fun h => nomatch h), rfl⟩
theorem f_J7_22_25 : xFld RJ7 22 25 1 := ⟨RJ8, TJ8, 4, "java/lang/AbstractStringBuilder", rfl, by decide, by decide, in_J8, Or.inl q237, Or.inl rfl⟩
theorem p_J7_22_25 : xFldP RJ7 22 25 1 .byte false := ⟨RJ8, TJ8, 4, "java/lang/AbstractStringBuilder", tyJ8, rfl, by decide, by decide, in_J8, Or.inl q237, Or.inl rfl, tyJ8_ok, nmJ8, rfl, (fun h => nomatch h), rfl⟩
theorem s_J7_26 : xLS RJ7 26 m_J10_newBytesFor 1 := ⟨Or.inl q229, q230, q107, w_J10_newBytesFor, ⟨by decide, by decide⟩, rfl, by decide⟩
theorem v_J7_32_26 : xLV RJ7 32 m_J9_length 26 0 := ⟨RJ9, TJ9, 4, rfl, by decide, Or.inl ⟨q329, q331, ⟨by decide, by decide⟩, rfl⟩, q330, q106, w_J9_length, by decide⟩
theorem v_J7_40_26 : xLV RJ7 40 m_J9_coder 26 0 := ⟨RJ9, TJ9, 4, rfl, by decide, Or.inl ⟨q346, q335, ⟨by decide, by decide⟩, rfl⟩, q334, q106, w_J9_coder, by decide⟩
theorem f_J7_79_25 : xFld RJ7 79 25 3 := ⟨RJ8, TJ8, 4, "java/lang/AbstractStringBuilder", rfl, by decide, by decide, in_J8, Or.inl q239, Or.inl rfl⟩
theorem p_J7_79_25 : xFldP RJ7 79 25 3 .int false := ⟨RJ8, TJ8, 4, "java/lang/AbstractStringBuilder", tyJ8, rfl, by decide, by decide, in_J8, Or.inl q239, Or.inl rfl, tyJ8_ok, nmJ8, rfl, (fun h => nomatch h), rfl⟩
theorem v_J7_83_25 : xLV RJ7 83 m_J7_isLatin1 25 0 := ⟨RJ8, TJ8, 4, rfl, by decide, Or.inl ⟨q298, q301, ⟨by decide, by decide⟩, rfl⟩, q299, q104, w_J7_isLatin1, by decide⟩
theorem s_J7_108 : xLS RJ7 108 m_J13_copyOf 2 := ⟨Or.inl q282, q283, q110, w_J13_copyOf, ⟨by decide, by decide⟩, rfl, by decide⟩
theorem s_J7_114 : xLS RJ7 114 m_J11_newLength 3 := ⟨Or.inl q271, q272, q108, w_J11_newLength, ⟨by decide, by decide⟩, rfl, by decide⟩
theorem s_J7_125 : xLS RJ7 125 m_J15_inflate 5 := ⟨Or.inl q351, q352, q113, w_J15_inflate, ⟨by decide, by decide⟩, rfl, by decide⟩
theorem s_J7_191 : xLS RJ7 191 m_J15_canEncode 1 := ⟨Or.inl q989, q990, q113, w_J15_canEncode, ⟨by decide, by decide⟩, rfl, by decide⟩
theorem s_J7_197 : xLS RJ7 197 m_J10_putCharSB 3 := ⟨Or.inl q992, q993, q107, w_J10_putCharSB, ⟨by decide, by decide⟩, rfl, by decide⟩
theorem s_J7_226 : xLS RJ7 226 m_J10_putCharsAt 6 := ⟨Or.inl q303, q304, q107, w_J10_putCharsAt, ⟨by decide, by decide⟩, rfl, by decide⟩
theorem s_J7_245 : xLS RJ7 245 m_J16_stringSize 1 := ⟨Or.inl q379, q380, q115, w_J16_stringSize, ⟨by decide, by decide⟩, rfl, by decide⟩
theorem s_J7_248 : xLS RJ7 248 m_J16_getChars 3 := ⟨Or.inl q382, q383, q115, w_J16_getChars, ⟨by decide, by decide⟩, rfl, by decide⟩
theorem s_J7_251 : xLS RJ7 251 m_J10_getChars 4 := ⟨Or.inl q389, q390, q107, w_J10_getChars, ⟨by decide, by decide⟩, rfl, by decide⟩
theorem v_J7_399_26 : xLV RJ7 399 m_J9_getBytes 26 3 := ⟨RJ9, TJ9, 4, rfl, by decide, Or.inl ⟨q366, q368, ⟨by decide, by decide⟩, rfl⟩, q367, q106, w_J9_getBytes, by decide⟩
theorem i_J8_1 : xLI RJ8 1 m_J7_init 1 := ⟨Or.inl q223, q224, q225, w_J7_init, q104, ⟨by decide, by decide⟩, rfl, rfl, by decide⟩
theorem n_J8_18 : xNew RJ8 18 26 4 [.null, .int 0, .int 0, .int 0] := ⟨RJ9, TJ9, tyJ9, rfl, by decide, in_J9, tyJ9_ok, q401, q402, q106, rfl, by decide +kernel⟩
theorem u_J8_29_0 : xLU RJ8 29 m_J7_append 0 1 := ⟨RX1, TX1, 25, rfl, by decide, q256, q2540, q248, q257, w_J7_append, by decide, rfl, q104, by decide⟩
theorem u_J8_50_0 : xLU RJ8 50 m_J7_append_3 0 1 := ⟨RX1, TX1, 25, rfl, by decide, q986, q2554, q248, q987, w_J7_append_3, by decide, rfl, q104, by decide⟩
theorem u_J8_53_0 : xLU RJ8 53 m_J7_append_2 0 1 := ⟨RX1, TX1, 25, rfl, by decide, q376, q2547, q248, q377, w_J7_append_2, by decide, rfl, q104, by decide⟩
theorem i_J8_137 : xLI RJ8 137 m_J9_init 1 := ⟨Or.inl q403, q404, q405, w_J9_init, q106, ⟨by decide, by decide⟩, rfl, rfl, by decide⟩
theorem u_J8_343_0 : xLU RJ8 343 m_J7_length 0 0 := ⟨RX1, TX1, 25, rfl, by decide, q421, q417, q248, q416, w_J7_length, by decide, rfl, q104, by decide⟩
theorem i_J9_1 : xLI RJ9 1 m_J19_init 0 := ⟨Or.inl q409, q153, q154, w_J19_init, q2560, ⟨by decide, by decide⟩, rfl, rfl, by decide⟩
theorem f_J9_9_26 : xFld RJ9 9 26 0 := ⟨RJ9, TJ9, 4, "java/lang/String", rfl, by decide, by decide, in_J9, Or.inl q478, Or.inl rfl⟩
theorem p_J9_9_26 : xFldP RJ9 9 26 0 (.array .byte) true := ⟨RJ9, TJ9, 4, "java/lang/String", tyJ9, rfl, by decide, by decide, in_J9, Or.inl q478, Or.inl rfl, tyJ9_ok, nmJ9, rfl, (fun _ => rfl), rfl⟩
theorem f_J9_15_26 : xFld RJ9 15 26 1 := ⟨RJ9, TJ9, 4, "java/lang/String", rfl, by decide, by decide, in_J9, Or.inl q479, Or.inl rfl⟩
theorem p_J9_15_26 : xFldP RJ9 15 26 1 .byte true := ⟨RJ9, TJ9, 4, "java/lang/String", tyJ9, rfl, by decide, by decide, in_J9, Or.inl q479, Or.inl rfl, tyJ9_ok, nmJ9, rfl, (fun _ => rfl), rfl⟩
theorem f_J9_19_26 : xFld RJ9 19 26 2 := ⟨RJ9, TJ9, 4, "java/lang/String", rfl, by decide, by decide, in_J9, Or.inl q480, Or.inl rfl⟩
theorem p_J9_19_26 : xFldP RJ9 19 26 2 .int false := ⟨RJ9, TJ9, 4, "java/lang/String", tyJ9, rfl, by decide, by decide, in_J9, Or.inl q480, Or.inl rfl, tyJ9_ok, nmJ9, rfl, (fun h => nomatch h), rfl⟩
theorem f_J9_23_26 : xFld RJ9 23 26 3 := ⟨RJ9, TJ9, 4, "java/lang/String", rfl, by decide, by decide, in_J9, Or.inl q481, Or.inl rfl⟩
theorem p_J9_23_26 : xFldP RJ9 23 26 3 .boolean false := ⟨RJ9, TJ9, 4, "java/lang/String", tyJ9, rfl, by decide, by decide, in_J9, Or.inl q481, Or.inl rfl, tyJ9_ok, nmJ9, rfl, (fun h => nomatch h), rfl⟩
theorem s_J9_47 : xLS RJ9 47 m_J10_coderFromArrayLen 2 := ⟨Or.inl q475, q476, q107, w_J10_coderFromArrayLen, ⟨by decide, by decide⟩, rfl, by decide⟩
theorem s_J9_54 : xLS RJ9 54 m_J13_copyOfRange 3 := ⟨Or.inl q424, q425, q110, w_J13_copyOfRange, ⟨by decide, by decide⟩, rfl, by decide⟩
theorem s_J9_106 : xLS RJ9 106 m_J15_inflate 5 := ⟨Or.inl q371, q352, q113, w_J15_inflate, ⟨by decide, by decide⟩, rfl, by decide⟩
theorem v_J9_335_26 : xLV RJ9 335 m_J9_coder 26 0 := ⟨RJ9, TJ9, 4, rfl, by decide, Or.inl ⟨q333, q335, ⟨by decide, by decide⟩, rfl⟩, q334, q106, w_J9_coder, by decide⟩
theorem i_J9_489 : xLI RJ9 489 m_J9_init_2 2 := ⟨Or.inl q406, q407, q408, w_J9_init_2, q106, ⟨by decide, by decide⟩, rfl, rfl, by decide⟩
theorem v_J9_492_26 : xLV RJ9 492 m_J9_isLatin1 26 0 := ⟨RJ9, TJ9, 4, rfl, by decide, Or.inl ⟨q1011, q1013, ⟨by decide, by decide⟩, rfl⟩, q1012, q106, w_J9_isLatin1, by decide⟩
theorem s_J9_541 : xLS RJ9 541 m_J15_equals 2 := ⟨Or.inl q1074, q1075, q113, w_J15_equals, ⟨by decide, by decide⟩, rfl, by decide⟩
theorem v_J9_549_25 : xLV RJ9 549 m_J8_length 25 0 := ⟨RJ8, TJ8, 4, rfl, by decide, Or.inr (Or.inr ⟨⟨"java/lang/AbstractStringBuilder", "length", "()I"⟩, "java/lang/AbstractStringBuilder", q415, q417, Or.inl ⟨m_J7_length, rfl, q416, w_J7_length⟩, q418, ⟨by decide, by decide⟩, rfl⟩), q419, q105, w_J8_length, by decide⟩
theorem v_J9_552_25 : xLV RJ9 552 m_J7_getValue 25 0 := ⟨RJ8, TJ8, 4, rfl, by decide, Or.inl ⟨q410, q413, ⟨by decide, by decide⟩, rfl⟩, q411, q104, w_J7_getValue, by decide⟩
theorem s_J9_628 : xLS RJ9 628 m_J15_hashCode 1 := ⟨Or.inl q1015, q1016, q113, w_J15_hashCode, ⟨by decide, by decide⟩, rfl, by decide⟩
theorem s_J9_632 : xLS RJ9 632 m_J10_hashCode 1 := ⟨Or.inl q1064, q1065, q107, w_J10_hashCode, ⟨by decide, by decide⟩, rfl, by decide⟩
theorem v_J9_1047_25 : xLV RJ9 1047 m_J7_isLatin1 25 0 := ⟨RJ8, TJ8, 4, rfl, by decide, Or.inl ⟨q423, q301, ⟨by decide, by decide⟩, rfl⟩, q299, q104, w_J7_isLatin1, by decide⟩
theorem f_J9_1048_25 : xFld RJ9 1048 25 2 := ⟨RJ8, TJ8, 4, "java/lang/AbstractStringBuilder", rfl, by decide, by decide, in_J8, Or.inl q238, Or.inl rfl⟩
theorem s_J9_1051 : xLS RJ9 1051 m_J10_compress 3 := ⟨Or.inl q465, q466, q107, w_J10_compress, ⟨by decide, by decide⟩, rfl, by decide⟩
theorem s_J9_1059 : xLS RJ9 1059 m_J14_checkIndex 3 := ⟨Or.inl q1001, q658, q112, w_J14_checkIndex, ⟨by decide, by decide⟩, rfl, by decide⟩
theorem s_J9_1062 : xLS RJ9 1062 m_J14_checkFromToIndex 4 := ⟨Or.inl q317, q318, q112, w_J14_checkFromToIndex, ⟨by decide, by decide⟩, rfl, by decide⟩
theorem s_J9_1065 : xLS RJ9 1065 m_J14_checkFromIndexSize 4 := ⟨Or.inl q363, q364, q112, w_J14_checkFromIndexSize, ⟨by decide, by decide⟩, rfl, by decide⟩
theorem v_X0_7_0 : xLV RX0 7 m_X1_market 0 1 := ⟨RX1, TX1, 25, rfl, by decide, Or.inl ⟨q885, q887, ⟨by decide, by decide⟩, rfl⟩, q886, q95, w_X1_market, by decide⟩
theorem n_X0_8 : xNew RX0 8 0 25 [.null, .null, .null, .null, .null, .null, .null, .null, .null, .null, .null, .int 0, .int 0, .int 0, .int 0, .int 0, .int 0, .int 0, .null, .long 0, .long 0, .int 0, .null, .null, .null] := ⟨RX1, TX1, tyX1, rfl, by decide, in_X1, tyX1_ok, q147, q148, q95, rfl, by decide +kernel⟩
theorem v_X0_15_0 : xLV RX0 15 m_X1_law 0 1 := ⟨RX1, TX1, 25, rfl, by decide, Or.inl ⟨q1195, q1197, ⟨by decide, by decide⟩, rfl⟩, q1196, q95, w_X1_law, by decide⟩
theorem v_X0_18_0 : xLV RX0 18 m_X1_work 0 1 := ⟨RX1, TX1, 25, rfl, by decide, Or.inl ⟨q1331, q1333, ⟨by decide, by decide⟩, rfl⟩, q1332, q95, w_X1_work, by decide⟩
theorem v_X0_21_0 : xLV RX0 21 m_X1_book 0 1 := ⟨RX1, TX1, 25, rfl, by decide, Or.inl ⟨q1628, q1630, ⟨by decide, by decide⟩, rfl⟩, q1629, q95, w_X1_book, by decide⟩
theorem v_X0_24_0 : xLV RX0 24 m_X1_told 0 1 := ⟨RX1, TX1, 25, rfl, by decide, Or.inl ⟨q1677, q1679, ⟨by decide, by decide⟩, rfl⟩, q1678, q95, w_X1_told, by decide⟩
theorem v_X0_27_0 : xLV RX0 27 m_X1_thing 0 2 := ⟨RX1, TX1, 25, rfl, by decide, Or.inl ⟨q1704, q1706, ⟨by decide, by decide⟩, rfl⟩, q1705, q95, w_X1_thing, by decide⟩
theorem v_X0_33_0 : xLV RX0 33 m_X1_cry 0 2 := ⟨RX1, TX1, 25, rfl, by decide, Or.inl ⟨q1736, q1738, ⟨by decide, by decide⟩, rfl⟩, q1737, q95, w_X1_cry, by decide⟩
theorem v_X0_36_0 : xLV RX0 36 m_X1_stands 0 4 := ⟨RX1, TX1, 25, rfl, by decide, Or.inl ⟨q1743, q1745, ⟨by decide, by decide⟩, rfl⟩, q1744, q95, w_X1_stands, by decide⟩
theorem v_X0_40_0 : xLV RX0 40 m_X1_would 0 7 := ⟨RX1, TX1, 25, rfl, by decide, Or.inl ⟨q1751, q1753, ⟨by decide, by decide⟩, rfl⟩, q1752, q95, w_X1_would, by decide⟩
theorem v_X0_44_0 : xLV RX0 44 m_X1_ahead 0 2 := ⟨RX1, TX1, 25, rfl, by decide, Or.inl ⟨q1759, q1761, ⟨by decide, by decide⟩, rfl⟩, q1760, q95, w_X1_ahead, by decide⟩
theorem v_X0_47_0 : xLV RX0 47 m_X1_worth 0 3 := ⟨RX1, TX1, 25, rfl, by decide, Or.inl ⟨q1771, q1773, ⟨by decide, by decide⟩, rfl⟩, q1772, q95, w_X1_worth, by decide⟩
theorem v_X0_51_0 : xLV RX0 51 m_X1_fattest 0 1 := ⟨RX1, TX1, 25, rfl, by decide, Or.inl ⟨q1785, q1787, ⟨by decide, by decide⟩, rfl⟩, q1786, q95, w_X1_fattest, by decide⟩
theorem v_X0_55_0 : xLV RX0 55 m_X1_match 0 2 := ⟨RX1, TX1, 25, rfl, by decide, Or.inl ⟨q1792, q1794, ⟨by decide, by decide⟩, rfl⟩, q1793, q95, w_X1_match, by decide⟩
theorem v_X0_58_0 : xLV RX0 58 m_X1_fewest 0 1 := ⟨RX1, TX1, 25, rfl, by decide, Or.inl ⟨q1807, q1809, ⟨by decide, by decide⟩, rfl⟩, q1808, q95, w_X1_fewest, by decide⟩
theorem v_X0_61_0 : xLV RX0 61 m_X1_level 0 2 := ⟨RX1, TX1, 25, rfl, by decide, Or.inl ⟨q1814, q1816, ⟨by decide, by decide⟩, rfl⟩, q1815, q95, w_X1_level, by decide⟩
theorem v_X0_64_0 : xLV RX0 64 m_X1_fits 0 1 := ⟨RX1, TX1, 25, rfl, by decide, Or.inl ⟨q1832, q1834, ⟨by decide, by decide⟩, rfl⟩, q1833, q95, w_X1_fits, by decide⟩
theorem v_X0_67_0 : xLV RX0 67 m_X1_look 0 1 := ⟨RX1, TX1, 25, rfl, by decide, Or.inl ⟨q1844, q1846, ⟨by decide, by decide⟩, rfl⟩, q1845, q95, w_X1_look, by decide⟩
theorem v_X0_70_0 : xLV RX0 70 m_X1_falsely 0 1 := ⟨RX1, TX1, 25, rfl, by decide, Or.inl ⟨q1855, q1857, ⟨by decide, by decide⟩, rfl⟩, q1856, q95, w_X1_falsely, by decide⟩
theorem v_X0_73_0 : xLV RX0 73 m_X1_sellers 0 3 := ⟨RX1, TX1, 25, rfl, by decide, Or.inl ⟨q1862, q1864, ⟨by decide, by decide⟩, rfl⟩, q1863, q95, w_X1_sellers, by decide⟩
theorem v_X0_77_0 : xLV RX0 77 m_X1_even 0 3 := ⟨RX1, TX1, 25, rfl, by decide, Or.inl ⟨q1872, q1874, ⟨by decide, by decide⟩, rfl⟩, q1873, q95, w_X1_even, by decide⟩
theorem v_X0_80_0 : xLV RX0 80 m_X1_share 0 3 := ⟨RX1, TX1, 25, rfl, by decide, Or.inl ⟨q1880, q1882, ⟨by decide, by decide⟩, rfl⟩, q1881, q95, w_X1_share, by decide⟩
theorem v_X0_83_0 : xLV RX0 83 m_X1_heaviest 0 1 := ⟨RX1, TX1, 25, rfl, by decide, Or.inl ⟨q1891, q1893, ⟨by decide, by decide⟩, rfl⟩, q1892, q95, w_X1_heaviest, by decide⟩
theorem v_X0_86_0 : xLV RX0 86 m_X1_above 0 1 := ⟨RX1, TX1, 25, rfl, by decide, Or.inl ⟨q1898, q1900, ⟨by decide, by decide⟩, rfl⟩, q1899, q95, w_X1_above, by decide⟩
theorem v_X0_89_0 : xLV RX0 89 m_X1_alike 0 1 := ⟨RX1, TX1, 25, rfl, by decide, Or.inl ⟨q1905, q1907, ⟨by decide, by decide⟩, rfl⟩, q1906, q95, w_X1_alike, by decide⟩
theorem v_X0_92_0 : xLV RX0 92 m_X1_against 0 2 := ⟨RX1, TX1, 25, rfl, by decide, Or.inl ⟨q1912, q1914, ⟨by decide, by decide⟩, rfl⟩, q1913, q95, w_X1_against, by decide⟩
theorem v_X0_95_0 : xLV RX0 95 m_X1_fair 0 4 := ⟨RX1, TX1, 25, rfl, by decide, Or.inl ⟨q1919, q1921, ⟨by decide, by decide⟩, rfl⟩, q1920, q95, w_X1_fair, by decide⟩
theorem v_X0_98_0 : xLV RX0 98 m_X1_span 0 6 := ⟨RX1, TX1, 25, rfl, by decide, Or.inl ⟨q1940, q1942, ⟨by decide, by decide⟩, rfl⟩, q1941, q95, w_X1_span, by decide⟩
theorem i_X0_102 : xLI RX0 102 m_X1_init 0 := ⟨Or.inl q149, q150, q151, w_X1_init, q95, ⟨by decide, by decide⟩, rfl, rfl, by decide⟩
theorem n_X0_103 : xNew RX0 103 27 46 [.int 0, .int 0, .int 0, .int 0, .int 0, .int 0, .int 0, .int 0, .int 0, .null, .null, .null, .null, .null, .null, .null, .null, .int 0, .int 0, .null, .null, .null, .null, .null, .null, .null, .int 0, .null, .null, .null, .null, .null, .int 0, .int 0, .int 0, .int 0, .int 0, .int 0, .int 0, .long 0, .long 0, .null, .int 0, .null, .null, .int 0] := ⟨RX9, TX9, tyX9, rfl, by decide, in_X9, tyX9_ok, q1944, q1945, q123, rfl, by decide +kernel⟩
theorem i_X0_105 : xLI RX0 105 m_X9_init 0 := ⟨Or.inl q1946, q1947, q1948, w_X9_init, q123, ⟨by decide, by decide⟩, rfl, rfl, by decide⟩
theorem v_X0_106_0 : xLV RX0 106 m_X1_feed 0 5 := ⟨RX1, TX1, 25, rfl, by decide, Or.inl ⟨q806, q808, ⟨by decide, by decide⟩, rfl⟩, q807, q95, w_X1_feed, by decide⟩
theorem v_X0_110_27 : xLV RX0 110 m_X9_feed 27 5 := ⟨RX9, TX9, 46, rfl, by decide, Or.inl ⟨q2106, q2108, ⟨by decide, by decide⟩, rfl⟩, q2107, q123, w_X9_feed, by decide⟩
theorem s_X0_111 : xLS RX0 111 m_X0_market 3 := ⟨Or.inl q881, q882, q94, w_X0_market, ⟨by decide, by decide⟩, rfl, by decide⟩
theorem v_X0_116_27 : xLV RX0 116 m_X9_market 27 1 := ⟨RX9, TX9, 46, rfl, by decide, Or.inl ⟨q2110, q2112, ⟨by decide, by decide⟩, rfl⟩, q2111, q123, w_X9_market, by decide⟩
theorem v_X0_117_27 : xLV RX0 117 m_X9_thrown 27 0 := ⟨RX9, TX9, 46, rfl, by decide, Or.inl ⟨q2102, q2104, ⟨by decide, by decide⟩, rfl⟩, q2103, q123, w_X9_thrown, by decide⟩
theorem s_X0_121 : xLS RX0 121 m_X0_law 3 := ⟨Or.inl q1192, q1193, q94, w_X0_law, ⟨by decide, by decide⟩, rfl, by decide⟩
theorem v_X0_123_27 : xLV RX0 123 m_X9_law 27 1 := ⟨RX9, TX9, 46, rfl, by decide, Or.inl ⟨q2186, q2188, ⟨by decide, by decide⟩, rfl⟩, q2187, q123, w_X9_law, by decide⟩
theorem s_X0_124 : xLS RX0 124 m_X0_work 3 := ⟨Or.inl q1328, q1329, q94, w_X0_work, ⟨by decide, by decide⟩, rfl, by decide⟩
theorem v_X0_126_27 : xLV RX0 126 m_X9_work 27 1 := ⟨RX9, TX9, 46, rfl, by decide, Or.inl ⟨q2234, q2236, ⟨by decide, by decide⟩, rfl⟩, q2235, q123, w_X9_work, by decide⟩
theorem s_X0_127 : xLS RX0 127 m_X0_book 3 := ⟨Or.inl q1625, q1626, q94, w_X0_book, ⟨by decide, by decide⟩, rfl, by decide⟩
theorem v_X0_129_27 : xLV RX0 129 m_X9_book 27 1 := ⟨RX9, TX9, 46, rfl, by decide, Or.inl ⟨q2226, q2228, ⟨by decide, by decide⟩, rfl⟩, q2227, q123, w_X9_book, by decide⟩
theorem v_X0_130_0 : xLV RX0 130 m_X1_fault 0 0 := ⟨RX1, TX1, 25, rfl, by decide, Or.inl ⟨q814, q816, ⟨by decide, by decide⟩, rfl⟩, q815, q95, w_X1_fault, by decide⟩
theorem v_X0_133_27 : xLV RX0 133 m_X9_fault 27 0 := ⟨RX9, TX9, 46, rfl, by decide, Or.inl ⟨q2230, q2232, ⟨by decide, by decide⟩, rfl⟩, q2231, q123, w_X9_fault, by decide⟩
theorem v_X0_134_0 : xLV RX0 134 m_X1_undo 0 0 := ⟨RX1, TX1, 25, rfl, by decide, Or.inl ⟨q818, q820, ⟨by decide, by decide⟩, rfl⟩, q819, q95, w_X1_undo, by decide⟩
theorem v_X0_137_27 : xLV RX0 137 m_X9_undo 27 0 := ⟨RX9, TX9, 46, rfl, by decide, Or.inl ⟨q2311, q2313, ⟨by decide, by decide⟩, rfl⟩, q2312, q123, w_X9_undo, by decide⟩
theorem s_X0_138 : xLS RX0 138 m_X0_told 3 := ⟨Or.inl q1674, q1675, q94, w_X0_told, ⟨by decide, by decide⟩, rfl, by decide⟩
theorem v_X0_140_27 : xLV RX0 140 m_X9_told 27 1 := ⟨RX9, TX9, 46, rfl, by decide, Or.inl ⟨q2315, q2317, ⟨by decide, by decide⟩, rfl⟩, q2316, q123, w_X9_told, by decide⟩
theorem s_X0_141 : xLS RX0 141 m_X0_thing 4 := ⟨Or.inl q1700, q1701, q94, w_X0_thing, ⟨by decide, by decide⟩, rfl, by decide⟩
theorem v_X0_144_27 : xLV RX0 144 m_X9_thing 27 2 := ⟨RX9, TX9, 46, rfl, by decide, Or.inl ⟨q2330, q2332, ⟨by decide, by decide⟩, rfl⟩, q2331, q123, w_X9_thing, by decide⟩
theorem s_X0_145 : xLS RX0 145 m_X0_cry 4 := ⟨Or.inl q1733, q1734, q94, w_X0_cry, ⟨by decide, by decide⟩, rfl, by decide⟩
theorem v_X0_147_27 : xLV RX0 147 m_X9_cry 27 2 := ⟨RX9, TX9, 46, rfl, by decide, Or.inl ⟨q2338, q2340, ⟨by decide, by decide⟩, rfl⟩, q2339, q123, w_X9_cry, by decide⟩
theorem s_X0_148 : xLS RX0 148 m_X0_stands 6 := ⟨Or.inl q1740, q1741, q94, w_X0_stands, ⟨by decide, by decide⟩, rfl, by decide⟩
theorem v_X0_151_27 : xLV RX0 151 m_X9_stands 27 4 := ⟨RX9, TX9, 46, rfl, by decide, Or.inl ⟨q2342, q2344, ⟨by decide, by decide⟩, rfl⟩, q2343, q123, w_X9_stands, by decide⟩
theorem s_X0_152 : xLS RX0 152 m_X0_would 9 := ⟨Or.inl q1748, q1749, q94, w_X0_would, ⟨by decide, by decide⟩, rfl, by decide⟩
theorem v_X0_155_27 : xLV RX0 155 m_X9_would 27 7 := ⟨RX9, TX9, 46, rfl, by decide, Or.inl ⟨q2346, q2348, ⟨by decide, by decide⟩, rfl⟩, q2347, q123, w_X9_would, by decide⟩
theorem s_X0_156 : xLS RX0 156 m_X0_ahead 4 := ⟨Or.inl q1756, q1757, q94, w_X0_ahead, ⟨by decide, by decide⟩, rfl, by decide⟩
theorem v_X0_158_27 : xLV RX0 158 m_X9_ahead 27 2 := ⟨RX9, TX9, 46, rfl, by decide, Or.inl ⟨q2350, q2352, ⟨by decide, by decide⟩, rfl⟩, q2351, q123, w_X9_ahead, by decide⟩
theorem s_X0_159 : xLS RX0 159 m_X0_worth 5 := ⟨Or.inl q1768, q1769, q94, w_X0_worth, ⟨by decide, by decide⟩, rfl, by decide⟩
theorem v_X0_162_27 : xLV RX0 162 m_X9_worth 27 3 := ⟨RX9, TX9, 46, rfl, by decide, Or.inl ⟨q2358, q2360, ⟨by decide, by decide⟩, rfl⟩, q2359, q123, w_X9_worth, by decide⟩
theorem s_X0_163 : xLS RX0 163 m_X0_fattest 3 := ⟨Or.inl q1782, q1783, q94, w_X0_fattest, ⟨by decide, by decide⟩, rfl, by decide⟩
theorem v_X0_165_27 : xLV RX0 165 m_X9_fattest 27 1 := ⟨RX9, TX9, 46, rfl, by decide, Or.inl ⟨q2380, q2382, ⟨by decide, by decide⟩, rfl⟩, q2381, q123, w_X9_fattest, by decide⟩
theorem v_X0_166_0 : xLV RX0 166 m_X1_fat 0 0 := ⟨RX1, TX1, 25, rfl, by decide, Or.inl ⟨q826, q828, ⟨by decide, by decide⟩, rfl⟩, q827, q95, w_X1_fat, by decide⟩
theorem v_X0_169_27 : xLV RX0 169 m_X9_fat 27 0 := ⟨RX9, TX9, 46, rfl, by decide, Or.inl ⟨q2392, q2394, ⟨by decide, by decide⟩, rfl⟩, q2393, q123, w_X9_fat, by decide⟩
theorem v_X0_170_0 : xLV RX0 170 m_X1_mend 0 0 := ⟨RX1, TX1, 25, rfl, by decide, Or.inl ⟨q848, q850, ⟨by decide, by decide⟩, rfl⟩, q849, q95, w_X1_mend, by decide⟩
theorem v_X0_173_27 : xLV RX0 173 m_X9_mend 27 0 := ⟨RX9, TX9, 46, rfl, by decide, Or.inl ⟨q2396, q2398, ⟨by decide, by decide⟩, rfl⟩, q2397, q123, w_X9_mend, by decide⟩
theorem s_X0_174 : xLS RX0 174 m_X0_match 4 := ⟨Or.inl q1789, q1790, q94, w_X0_match, ⟨by decide, by decide⟩, rfl, by decide⟩
theorem v_X0_176_27 : xLV RX0 176 m_X9_match 27 2 := ⟨RX9, TX9, 46, rfl, by decide, Or.inl ⟨q2408, q2410, ⟨by decide, by decide⟩, rfl⟩, q2409, q123, w_X9_match, by decide⟩
theorem s_X0_177 : xLS RX0 177 m_X0_fewest 3 := ⟨Or.inl q1804, q1805, q94, w_X0_fewest, ⟨by decide, by decide⟩, rfl, by decide⟩
theorem v_X0_179_27 : xLV RX0 179 m_X9_fewest 27 1 := ⟨RX9, TX9, 46, rfl, by decide, Or.inl ⟨q2428, q2430, ⟨by decide, by decide⟩, rfl⟩, q2429, q123, w_X9_fewest, by decide⟩
theorem s_X0_180 : xLS RX0 180 m_X0_level 4 := ⟨Or.inl q1811, q1812, q94, w_X0_level, ⟨by decide, by decide⟩, rfl, by decide⟩
theorem v_X0_182_27 : xLV RX0 182 m_X9_level 27 2 := ⟨RX9, TX9, 46, rfl, by decide, Or.inl ⟨q2432, q2434, ⟨by decide, by decide⟩, rfl⟩, q2433, q123, w_X9_level, by decide⟩
theorem s_X0_183 : xLS RX0 183 m_X0_fits 3 := ⟨Or.inl q1829, q1830, q94, w_X0_fits, ⟨by decide, by decide⟩, rfl, by decide⟩
theorem v_X0_185_27 : xLV RX0 185 m_X9_fits 27 1 := ⟨RX9, TX9, 46, rfl, by decide, Or.inl ⟨q2440, q2442, ⟨by decide, by decide⟩, rfl⟩, q2441, q123, w_X9_fits, by decide⟩
theorem s_X0_186 : xLS RX0 186 m_X0_look 3 := ⟨Or.inl q1841, q1842, q94, w_X0_look, ⟨by decide, by decide⟩, rfl, by decide⟩
theorem v_X0_188_27 : xLV RX0 188 m_X9_look 27 1 := ⟨RX9, TX9, 46, rfl, by decide, Or.inl ⟨q2448, q2450, ⟨by decide, by decide⟩, rfl⟩, q2449, q123, w_X9_look, by decide⟩
theorem s_X0_189 : xLS RX0 189 m_X0_falsely 3 := ⟨Or.inl q1852, q1853, q94, w_X0_falsely, ⟨by decide, by decide⟩, rfl, by decide⟩
theorem v_X0_191_27 : xLV RX0 191 m_X9_falsely 27 1 := ⟨RX9, TX9, 46, rfl, by decide, Or.inl ⟨q2456, q2458, ⟨by decide, by decide⟩, rfl⟩, q2457, q123, w_X9_falsely, by decide⟩
theorem s_X0_192 : xLS RX0 192 m_X0_sellers 5 := ⟨Or.inl q1859, q1860, q94, w_X0_sellers, ⟨by decide, by decide⟩, rfl, by decide⟩
theorem v_X0_194_27 : xLV RX0 194 m_X9_sellers 27 3 := ⟨RX9, TX9, 46, rfl, by decide, Or.inl ⟨q2460, q2462, ⟨by decide, by decide⟩, rfl⟩, q2461, q123, w_X9_sellers, by decide⟩
theorem s_X0_195 : xLS RX0 195 m_X0_even 5 := ⟨Or.inl q1869, q1870, q94, w_X0_even, ⟨by decide, by decide⟩, rfl, by decide⟩
theorem v_X0_197_27 : xLV RX0 197 m_X9_even 27 3 := ⟨RX9, TX9, 46, rfl, by decide, Or.inl ⟨q2470, q2472, ⟨by decide, by decide⟩, rfl⟩, q2471, q123, w_X9_even, by decide⟩
theorem s_X0_198 : xLS RX0 198 m_X0_share 5 := ⟨Or.inl q1877, q1878, q94, w_X0_share, ⟨by decide, by decide⟩, rfl, by decide⟩
theorem v_X0_200_27 : xLV RX0 200 m_X9_share 27 3 := ⟨RX9, TX9, 46, rfl, by decide, Or.inl ⟨q2474, q2476, ⟨by decide, by decide⟩, rfl⟩, q2475, q123, w_X9_share, by decide⟩
theorem s_X0_201 : xLS RX0 201 m_X0_heaviest 3 := ⟨Or.inl q1888, q1889, q94, w_X0_heaviest, ⟨by decide, by decide⟩, rfl, by decide⟩
theorem v_X0_203_27 : xLV RX0 203 m_X9_heaviest 27 1 := ⟨RX9, TX9, 46, rfl, by decide, Or.inl ⟨q2482, q2484, ⟨by decide, by decide⟩, rfl⟩, q2483, q123, w_X9_heaviest, by decide⟩
theorem s_X0_204 : xLS RX0 204 m_X0_above 3 := ⟨Or.inl q1895, q1896, q94, w_X0_above, ⟨by decide, by decide⟩, rfl, by decide⟩
theorem v_X0_206_27 : xLV RX0 206 m_X9_above 27 1 := ⟨RX9, TX9, 46, rfl, by decide, Or.inl ⟨q2404, q2406, ⟨by decide, by decide⟩, rfl⟩, q2405, q123, w_X9_above, by decide⟩
theorem s_X0_207 : xLS RX0 207 m_X0_alike 3 := ⟨Or.inl q1902, q1903, q94, w_X0_alike, ⟨by decide, by decide⟩, rfl, by decide⟩
theorem v_X0_209_27 : xLV RX0 209 m_X9_alike 27 1 := ⟨RX9, TX9, 46, rfl, by decide, Or.inl ⟨q2486, q2488, ⟨by decide, by decide⟩, rfl⟩, q2487, q123, w_X9_alike, by decide⟩
theorem s_X0_210 : xLS RX0 210 m_X0_against 4 := ⟨Or.inl q1909, q1910, q94, w_X0_against, ⟨by decide, by decide⟩, rfl, by decide⟩
theorem v_X0_212_27 : xLV RX0 212 m_X9_against 27 2 := ⟨RX9, TX9, 46, rfl, by decide, Or.inl ⟨q2490, q2492, ⟨by decide, by decide⟩, rfl⟩, q2491, q123, w_X9_against, by decide⟩
theorem s_X0_213 : xLS RX0 213 m_X0_fair 6 := ⟨Or.inl q1916, q1917, q94, w_X0_fair, ⟨by decide, by decide⟩, rfl, by decide⟩
theorem v_X0_215_27 : xLV RX0 215 m_X9_fair 27 4 := ⟨RX9, TX9, 46, rfl, by decide, Or.inl ⟨q2494, q2496, ⟨by decide, by decide⟩, rfl⟩, q2495, q123, w_X9_fair, by decide⟩
theorem s_X0_216 : xLS RX0 216 m_X0_span 8 := ⟨Or.inl q1937, q1938, q94, w_X0_span, ⟨by decide, by decide⟩, rfl, by decide⟩
theorem v_X0_219_27 : xLV RX0 219 m_X9_span 27 6 := ⟨RX9, TX9, 46, rfl, by decide, Or.inl ⟨q2510, q2512, ⟨by decide, by decide⟩, rfl⟩, q2511, q123, w_X9_span, by decide⟩
theorem v_X0_220_0 : xLV RX0 220 m_X1_image 0 0 := ⟨RX1, TX1, 25, rfl, by decide, Or.inl ⟨q858, q860, ⟨by decide, by decide⟩, rfl⟩, q859, q95, w_X1_image, by decide⟩
theorem v_X0_223_27 : xLV RX0 223 m_X9_image 27 0 := ⟨RX9, TX9, 46, rfl, by decide, Or.inl ⟨q2514, q2516, ⟨by decide, by decide⟩, rfl⟩, q2515, q123, w_X9_image, by decide⟩
theorem v_X0_224_0 : xLV RX0 224 m_X1_restore 0 0 := ⟨RX1, TX1, 25, rfl, by decide, Or.inl ⟨q866, q868, ⟨by decide, by decide⟩, rfl⟩, q867, q95, w_X1_restore, by decide⟩
theorem v_X0_227_27 : xLV RX0 227 m_X9_restore 27 0 := ⟨RX9, TX9, 46, rfl, by decide, Or.inl ⟨q2526, q2528, ⟨by decide, by decide⟩, rfl⟩, q2527, q123, w_X9_restore, by decide⟩
theorem v_X0_228_0 : xLV RX0 228 m_X1_status 0 1 := ⟨RX1, TX1, 25, rfl, by decide, Or.inl ⟨q870, q872, ⟨by decide, by decide⟩, rfl⟩, q871, q95, w_X1_status, by decide⟩
theorem v_X0_231_27 : xLV RX0 231 m_X9_status 27 1 := ⟨RX9, TX9, 46, rfl, by decide, Or.inl ⟨q2530, q2532, ⟨by decide, by decide⟩, rfl⟩, q2531, q123, w_X9_status, by decide⟩
theorem v_X0_232_0 : xLV RX0 232 m_X1_count 0 1 := ⟨RX1, TX1, 25, rfl, by decide, Or.inl ⟨q877, q879, ⟨by decide, by decide⟩, rfl⟩, q878, q95, w_X1_count, by decide⟩
theorem v_X0_235_27 : xLV RX0 235 m_X9_count 27 1 := ⟨RX9, TX9, 46, rfl, by decide, Or.inl ⟨q2534, q2536, ⟨by decide, by decide⟩, rfl⟩, q2535, q123, w_X9_count, by decide⟩
theorem n_X1_3 : xNew RX1 3 5 2 [.null, .null] := ⟨RX5, TX5, tyX5, rfl, by decide, in_X5, tyX5_ok, q537, q538, q118, rfl, by decide +kernel⟩
theorem n_X1_5 : xNew RX1 5 6 1 [.int 0] := ⟨RX6, TX6, tyX6, rfl, by decide, in_X6, tyX6_ok, q539, q540, q119, rfl, by decide +kernel⟩
theorem i_X1_7 : xLI RX1 7 m_X6_init 1 := ⟨Or.inl q541, q542, q543, w_X6_init, q119, ⟨by decide, by decide⟩, rfl, rfl, by decide⟩
theorem n_X1_11 : xNew RX1 11 7 1 [.int 0] := ⟨RX7, TX7, tyX7, rfl, by decide, in_X7, tyX7_ok, q552, q553, q120, rfl, by decide +kernel⟩
theorem i_X1_13 : xLI RX1 13 m_X7_init 1 := ⟨Or.inl q554, q555, q556, w_X7_init, q120, ⟨by decide, by decide⟩, rfl, rfl, by decide⟩
theorem i_X1_14 : xLI RX1 14 m_X5_init 2 := ⟨Or.inl q562, q563, q564, w_X5_init, q118, ⟨by decide, by decide⟩, rfl, rfl, by decide⟩
theorem i_X1_17 : xLI RX1 17 m_J19_init 0 := ⟨Or.inl q152, q153, q154, w_J19_init, q2560, ⟨by decide, by decide⟩, rfl, rfl, by decide⟩
theorem n_X1_22 : xNew RX1 22 1 6 [.null, .null, .int 0, .int 0, .int 0, .int 0] := ⟨RX2, TX2, tyX2, rfl, by decide, in_X2, tyX2_ok, q155, q156, q96, rfl, by decide +kernel⟩
theorem i_X1_24 : xLI RX1 24 m_X2_init 0 := ⟨Or.inr ⟨"LeaningMarket", xnw_in q157 rfl⟩, q158, q159, w_X2_init, q96, ⟨by decide, by decide⟩, rfl, rfl, by decide⟩
theorem f_X1_25_0 : xFld RX1 25 0 0 := ⟨RX1, TX1, 25, "LeaningMarket", rfl, by decide, by decide, in_X1, Or.inl q729, Or.inl rfl⟩
theorem p_X1_25_0 : xFldP RX1 25 0 0 (.object "LeaningMarket$Told") false := ⟨RX1, TX1, 25, "LeaningMarket", tyX1, rfl, by decide, by decide, in_X1, Or.inl q729, Or.inl rfl, tyX1_ok, nmX1, rfl, (fun h => nomatch h), rfl⟩
theorem s_X1_29 : xLS RX1 29 m_X1_custom 0 := ⟨Or.inl q534, q535, q95, w_X1_custom, ⟨by decide, by decide⟩, rfl, by decide⟩
theorem f_X1_33_0 : xFld RX1 33 0 1 := ⟨RX1, TX1, 25, "LeaningMarket", rfl, by decide, by decide, in_X1, Or.inl q730, Or.inl rfl⟩
theorem p_X1_33_0 : xFldP RX1 33 0 1 (.object "LeaningMarket$Term") false := ⟨RX1, TX1, 25, "LeaningMarket", tyX1, rfl, by decide, by decide, in_X1, Or.inl q730, Or.inl rfl, tyX1_ok, nmX1, rfl, (fun h => nomatch h), rfl⟩
theorem f_X1_37_0 : xFld RX1 37 0 2 := ⟨RX1, TX1, 25, "LeaningMarket", rfl, by decide, by decide, in_X1, Or.inl q731, Or.inl rfl⟩
theorem p_X1_37_0 : xFldP RX1 37 0 2 (.array .int) true := ⟨RX1, TX1, 25, "LeaningMarket", tyX1, rfl, by decide, by decide, in_X1, Or.inl q731, Or.inl rfl, tyX1_ok, nmX1, rfl, (fun _ => rfl), rfl⟩
theorem f_X1_41_0 : xFld RX1 41 0 3 := ⟨RX1, TX1, 25, "LeaningMarket", rfl, by decide, by decide, in_X1, Or.inl q732, Or.inl rfl⟩
theorem p_X1_41_0 : xFldP RX1 41 0 3 (.array .int) true := ⟨RX1, TX1, 25, "LeaningMarket", tyX1, rfl, by decide, by decide, in_X1, Or.inl q732, Or.inl rfl, tyX1_ok, nmX1, rfl, (fun _ => rfl), rfl⟩
theorem f_X1_44_0 : xFld RX1 44 0 4 := ⟨RX1, TX1, 25, "LeaningMarket", rfl, by decide, by decide, in_X1, Or.inl q733, Or.inl rfl⟩
theorem p_X1_44_0 : xFldP RX1 44 0 4 (.array .int) true := ⟨RX1, TX1, 25, "LeaningMarket", tyX1, rfl, by decide, by decide, in_X1, Or.inl q733, Or.inl rfl, tyX1_ok, nmX1, rfl, (fun _ => rfl), rfl⟩
theorem n_X1_47 : xNew RX1 47 3 11 [.null, .null, .null, .null, .int 0, .int 0, .int 0, .int 0, .int 0, .int 0, .null] := ⟨RX8, TX8, tyX8, rfl, by decide, in_X8, tyX8_ok, q576, q577, q121, rfl, by decide +kernel⟩
theorem i_X1_49 : xLI RX1 49 m_X8_init 1 := ⟨Or.inr ⟨"LeaningMarket", xnw_in q578 rfl⟩, q579, q580, w_X8_init, q121, ⟨by decide, by decide⟩, rfl, rfl, by decide⟩
theorem f_X1_52_0 : xFld RX1 52 0 5 := ⟨RX1, TX1, 25, "LeaningMarket", rfl, by decide, by decide, in_X1, Or.inl q734, Or.inl rfl⟩
theorem p_X1_52_0 : xFldP RX1 52 0 5 (.object "LeaningMarket$Market") true := ⟨RX1, TX1, 25, "LeaningMarket", tyX1, rfl, by decide, by decide, in_X1, Or.inl q734, Or.inl rfl, tyX1_ok, nmX1, rfl, (fun _ => rfl), rfl⟩
theorem f_X1_56_0 : xFld RX1 56 0 6 := ⟨RX1, TX1, 25, "LeaningMarket", rfl, by decide, by decide, in_X1, Or.inl q735, Or.inl rfl⟩
theorem p_X1_56_0 : xFldP RX1 56 0 6 (.object "LeaningMarket$Market") true := ⟨RX1, TX1, 25, "LeaningMarket", tyX1, rfl, by decide, by decide, in_X1, Or.inl q735, Or.inl rfl, tyX1_ok, nmX1, rfl, (fun _ => rfl), rfl⟩
theorem f_X1_59_0 : xFld RX1 59 0 7 := ⟨RX1, TX1, 25, "LeaningMarket", rfl, by decide, by decide, in_X1, Or.inl q736, Or.inl rfl⟩
theorem p_X1_59_0 : xFldP RX1 59 0 7 (.array (.object "LeaningMarket$Market")) true := ⟨RX1, TX1, 25, "LeaningMarket", tyX1, rfl, by decide, by decide, in_X1, Or.inl q736, Or.inl rfl, tyX1_ok, nmX1, rfl, (fun _ => rfl), rfl⟩
theorem f_X1_63_0 : xFld RX1 63 0 8 := ⟨RX1, TX1, 25, "LeaningMarket", rfl, by decide, by decide, in_X1, Or.inl q737, Or.inl rfl⟩
theorem p_X1_63_0 : xFldP RX1 63 0 8 (.array (.object "LeaningMarket$Market")) true := ⟨RX1, TX1, 25, "LeaningMarket", tyX1, rfl, by decide, by decide, in_X1, Or.inl q737, Or.inl rfl, tyX1_ok, nmX1, rfl, (fun _ => rfl), rfl⟩
theorem f_X1_66_0 : xFld RX1 66 0 9 := ⟨RX1, TX1, 25, "LeaningMarket", rfl, by decide, by decide, in_X1, Or.inl q738, Or.inl rfl⟩
theorem p_X1_66_0 : xFldP RX1 66 0 9 (.array (.object "LeaningMarket$Market")) true := ⟨RX1, TX1, 25, "LeaningMarket", tyX1, rfl, by decide, by decide, in_X1, Or.inl q738, Or.inl rfl, tyX1_ok, nmX1, rfl, (fun _ => rfl), rfl⟩
theorem f_X1_69_0 : xFld RX1 69 0 10 := ⟨RX1, TX1, 25, "LeaningMarket", rfl, by decide, by decide, in_X1, Or.inl q739, Or.inl rfl⟩
theorem p_X1_69_0 : xFldP RX1 69 0 10 (.array .int) true := ⟨RX1, TX1, 25, "LeaningMarket", tyX1, rfl, by decide, by decide, in_X1, Or.inl q739, Or.inl rfl, tyX1_ok, nmX1, rfl, (fun _ => rfl), rfl⟩
theorem f_X1_72_0 : xFld RX1 72 0 16 := ⟨RX1, TX1, 25, "LeaningMarket", rfl, by decide, by decide, in_X1, Or.inl q745, Or.inl rfl⟩
theorem p_X1_72_0 : xFldP RX1 72 0 16 .int false := ⟨RX1, TX1, 25, "LeaningMarket", tyX1, rfl, by decide, by decide, in_X1, Or.inl q745, Or.inl rfl, tyX1_ok, nmX1, rfl, (fun h => nomatch h), rfl⟩
theorem f_X1_76_0 : xFld RX1 76 0 18 := ⟨RX1, TX1, 25, "LeaningMarket", rfl, by decide, by decide, in_X1, Or.inl q747, Or.inl rfl⟩
theorem p_X1_76_0 : xFldP RX1 76 0 18 (.array .byte) true := ⟨RX1, TX1, 25, "LeaningMarket", tyX1, rfl, by decide, by decide, in_X1, Or.inl q747, Or.inl rfl, tyX1_ok, nmX1, rfl, (fun _ => rfl), rfl⟩
theorem f_X1_80_0 : xFld RX1 80 0 22 := ⟨RX1, TX1, 25, "LeaningMarket", rfl, by decide, by decide, in_X1, Or.inl q751, Or.inl rfl⟩
theorem p_X1_80_0 : xFldP RX1 80 0 22 (.array .boolean) true := ⟨RX1, TX1, 25, "LeaningMarket", tyX1, rfl, by decide, by decide, in_X1, Or.inl q751, Or.inl rfl, tyX1_ok, nmX1, rfl, (fun _ => rfl), rfl⟩
theorem f_X1_84_0 : xFld RX1 84 0 23 := ⟨RX1, TX1, 25, "LeaningMarket", rfl, by decide, by decide, in_X1, Or.inl q752, Or.inl rfl⟩
theorem p_X1_84_0 : xFldP RX1 84 0 23 (.array .boolean) true := ⟨RX1, TX1, 25, "LeaningMarket", tyX1, rfl, by decide, by decide, in_X1, Or.inl q752, Or.inl rfl, tyX1_ok, nmX1, rfl, (fun _ => rfl), rfl⟩
theorem f_X1_87_0 : xFld RX1 87 0 24 := ⟨RX1, TX1, 25, "LeaningMarket", rfl, by decide, by decide, in_X1, Or.inl q753, Or.inl rfl⟩
theorem p_X1_87_0 : xFldP RX1 87 0 24 (.array .int) true := ⟨RX1, TX1, 25, "LeaningMarket", tyX1, rfl, by decide, by decide, in_X1, Or.inl q753, Or.inl rfl, tyX1_ok, nmX1, rfl, (fun _ => rfl), rfl⟩
theorem v_X1_90_0 : xLV RX1 90 m_X1_begins 0 0 := ⟨RX1, TX1, 25, rfl, by decide, Or.inl ⟨q629, qs1, ⟨by decide, by decide⟩, rfl⟩, q631, q95, w_X1_begins, by decide⟩
theorem v_X1_93_3 : xLV RX1 93 m_X8_begins 3 0 := ⟨RX8, TX8, 11, rfl, by decide, Or.inl ⟨q633, q635, ⟨by decide, by decide⟩, rfl⟩, q634, q121, w_X8_begins, by decide⟩
theorem f_X1_96_0 : xFld RX1 96 0 11 := ⟨RX1, TX1, 25, "LeaningMarket", rfl, by decide, by decide, in_X1, Or.inl q740, Or.inl rfl⟩
theorem p_X1_96_0 : xFldP RX1 96 0 11 .int false := ⟨RX1, TX1, 25, "LeaningMarket", tyX1, rfl, by decide, by decide, in_X1, Or.inl q740, Or.inl rfl, tyX1_ok, nmX1, rfl, (fun h => nomatch h), rfl⟩
theorem f_X1_99_0 : xFld RX1 99 0 12 := ⟨RX1, TX1, 25, "LeaningMarket", rfl, by decide, by decide, in_X1, Or.inl q741, Or.inl rfl⟩
theorem p_X1_99_0 : xFldP RX1 99 0 12 .int false := ⟨RX1, TX1, 25, "LeaningMarket", tyX1, rfl, by decide, by decide, in_X1, Or.inl q741, Or.inl rfl, tyX1_ok, nmX1, rfl, (fun h => nomatch h), rfl⟩
theorem f_X1_102_0 : xFld RX1 102 0 13 := ⟨RX1, TX1, 25, "LeaningMarket", rfl, by decide, by decide, in_X1, Or.inl q742, Or.inl rfl⟩
theorem p_X1_102_0 : xFldP RX1 102 0 13 .int false := ⟨RX1, TX1, 25, "LeaningMarket", tyX1, rfl, by decide, by decide, in_X1, Or.inl q742, Or.inl rfl, tyX1_ok, nmX1, rfl, (fun h => nomatch h), rfl⟩
theorem f_X1_105_0 : xFld RX1 105 0 17 := ⟨RX1, TX1, 25, "LeaningMarket", rfl, by decide, by decide, in_X1, Or.inl q746, Or.inl rfl⟩
theorem p_X1_105_0 : xFldP RX1 105 0 17 .int false := ⟨RX1, TX1, 25, "LeaningMarket", tyX1, rfl, by decide, by decide, in_X1, Or.inl q746, Or.inl rfl, tyX1_ok, nmX1, rfl, (fun h => nomatch h), rfl⟩
theorem v_X1_108_5 : xLV RX1 108 m_X4_of 5 1 := ⟨RX5, TX5, 2, rfl, by decide, Or.inr (Or.inr ⟨⟨"LeaningMarket$Term", "of", "([I)I"⟩, "LeaningMarket$Term", q1526, q1528, Or.inr (xnw_in q1527 rfl), q1529, ⟨by decide, by decide⟩, rfl⟩), q1530, q117, w_X4_of, by decide⟩
theorem v_X1_108_6 : xLV RX1 108 m_X6_of 6 1 := ⟨RX6, TX6, 1, rfl, by decide, Or.inr (Or.inr ⟨⟨"LeaningMarket$Term", "of", "([I)I"⟩, "LeaningMarket$Term", q1526, q1528, Or.inr (xnw_in q1527 rfl), q1563, ⟨by decide, by decide⟩, rfl⟩), q1533, q119, w_X6_of, by decide⟩
theorem v_X1_108_7 : xLV RX1 108 m_X7_of 7 1 := ⟨RX7, TX7, 1, rfl, by decide, Or.inr (Or.inr ⟨⟨"LeaningMarket$Term", "of", "([I)I"⟩, "LeaningMarket$Term", q1526, q1528, Or.inr (xnw_in q1527 rfl), q1568, ⟨by decide, by decide⟩, rfl⟩), q1535, q120, w_X7_of, by decide⟩
theorem v_X1_108_8 : xLV RX1 108 m_X4_of 8 1 := ⟨RX16, TX16, 2, rfl, by decide, Or.inr (Or.inr ⟨⟨"LeaningMarket$Term", "of", "([I)I"⟩, "LeaningMarket$Term", q1526, q1528, Or.inr (xnw_in q1527 rfl), q1564, ⟨by decide, by decide⟩, rfl⟩), q1530, q117, w_X4_of, by decide⟩
theorem v_X1_108_9 : xLV RX1 108 m_X4_of 9 1 := ⟨RX17, TX17, 2, rfl, by decide, Or.inr (Or.inr ⟨⟨"LeaningMarket$Term", "of", "([I)I"⟩, "LeaningMarket$Term", q1526, q1528, Or.inr (xnw_in q1527 rfl), q1567, ⟨by decide, by decide⟩, rfl⟩), q1530, q117, w_X4_of, by decide⟩
theorem v_X1_108_10 : xLV RX1 108 m_X4_of 10 1 := ⟨RX18, TX18, 2, rfl, by decide, Or.inr (Or.inr ⟨⟨"LeaningMarket$Term", "of", "([I)I"⟩, "LeaningMarket$Term", q1526, q1528, Or.inr (xnw_in q1527 rfl), q1570, ⟨by decide, by decide⟩, rfl⟩), q1530, q117, w_X4_of, by decide⟩
theorem v_X1_108_11 : xLV RX1 108 m_X4_of 11 1 := ⟨RX19, TX19, 2, rfl, by decide, Or.inr (Or.inr ⟨⟨"LeaningMarket$Term", "of", "([I)I"⟩, "LeaningMarket$Term", q1526, q1528, Or.inr (xnw_in q1527 rfl), q1565, ⟨by decide, by decide⟩, rfl⟩), q1530, q117, w_X4_of, by decide⟩
theorem v_X1_108_12 : xLV RX1 108 m_X4_of 12 1 := ⟨RX20, TX20, 2, rfl, by decide, Or.inr (Or.inr ⟨⟨"LeaningMarket$Term", "of", "([I)I"⟩, "LeaningMarket$Term", q1526, q1528, Or.inr (xnw_in q1527 rfl), q1569, ⟨by decide, by decide⟩, rfl⟩), q1530, q117, w_X4_of, by decide⟩
theorem v_X1_108_13 : xLV RX1 108 m_X4_of 13 1 := ⟨RX21, TX21, 2, rfl, by decide, Or.inr (Or.inr ⟨⟨"LeaningMarket$Term", "of", "([I)I"⟩, "LeaningMarket$Term", q1526, q1528, Or.inr (xnw_in q1527 rfl), q1566, ⟨by decide, by decide⟩, rfl⟩), q1530, q117, w_X4_of, by decide⟩
theorem s_X1_114 : xLS RX1 114 m_J12_min 2 := ⟨Or.inl q1571, q293, q109, w_J12_min, ⟨by decide, by decide⟩, rfl, by decide⟩
theorem s_X1_120 : xLS RX1 120 m_J12_max 2 := ⟨Or.inl q1572, q275, q109, w_J12_max, ⟨by decide, by decide⟩, rfl, by decide⟩
theorem n_X1_123 : xNew RX1 123 28 6 [.null, .null, .null, .null, .null, .int 0] := ⟨RJ6, TJ6, tyJ6, rfl, by decide, in_J6, tyJ6_ok, q894, q178, q103, rfl, by decide +kernel⟩
theorem i_X1_125 : xLI RX1 125 m_J6_init_2 0 := ⟨Or.inl q895, q896, q897, w_J6_init_2, q103, ⟨by decide, by decide⟩, rfl, rfl, by decide⟩
theorem n_X1_126 : xNew RX1 126 29 6 [.null, .null, .null, .null, .null, .int 0] := ⟨RJ18, TJ18, tyJ18, rfl, by decide, in_J18, tyJ18_ok, q1716, q1717, q146, rfl, by decide +kernel⟩
theorem i_X1_128 : xLI RX1 128 m_J18_init 0 := ⟨Or.inl q1725, q1726, q1727, w_J18_init, q146, ⟨by decide, by decide⟩, rfl, rfl, by decide⟩
theorem f_X1_129_1 : xFld RX1 129 1 2 := ⟨RX2, TX2, 6, "LeaningMarket$Told", rfl, by decide, by decide, in_X2, Or.inr ⟨"LeaningMarket", xnw_in q512 rfl⟩, Or.inl rfl⟩
theorem v_X1_132_0 : xLV RX1 132 m_X1_needThere 0 2 := ⟨RX1, TX1, 25, rfl, by decide, Or.inl ⟨q1712, qs27, ⟨by decide, by decide⟩, rfl⟩, q1714, q95, w_X1_needThere, by decide⟩
theorem v_X1_136_0 : xLV RX1 136 m_X1_need 0 1 := ⟨RX1, TX1, 25, rfl, by decide, Or.inl ⟨q890, qs11, ⟨by decide, by decide⟩, rfl⟩, q892, q95, w_X1_need, by decide⟩
theorem f_X1_140_0 : xFld RX1 140 0 15 := ⟨RX1, TX1, 25, "LeaningMarket", rfl, by decide, by decide, in_X1, Or.inl q744, Or.inl rfl⟩
theorem p_X1_140_0 : xFldP RX1 140 0 15 .int false := ⟨RX1, TX1, 25, "LeaningMarket", tyX1, rfl, by decide, by decide, in_X1, Or.inl q744, Or.inl rfl, tyX1_ok, nmX1, rfl, (fun h => nomatch h), rfl⟩
theorem v_X1_143_0 : xLV RX1 143 m_X1_put 0 1 := ⟨RX1, TX1, 25, rfl, by decide, Or.inl ⟨q810, qs6, ⟨by decide, by decide⟩, rfl⟩, q812, q95, w_X1_put, by decide⟩
theorem f_X1_146_14 : xFld RX1 146 14 7 := ⟨RX13, TX13, 8, "LeaningMarket$Wrong", rfl, by decide, by decide, in_X13, Or.inr ⟨"LeaningMarket", xnw_in q1106 rfl⟩, Or.inl rfl⟩
theorem f_X1_151_14 : xFld RX1 151 14 6 := ⟨RX13, TX13, 8, "LeaningMarket$Wrong", rfl, by decide, by decide, in_X13, Or.inr ⟨"LeaningMarket", xnw_in q1104 rfl⟩, Or.inl rfl⟩
theorem n_X1_154 : xNew RX1 154 15 6 [.null, .int 0, .int 0, .int 0, .int 0, .null] := ⟨RX12, TX12, tyX12, rfl, by decide, in_X12, tyX12_ok, q905, q906, q126, rfl, by decide +kernel⟩
theorem i_X1_156 : xLI RX1 156 m_X12_init 2 := ⟨Or.inl q907, q908, q909, w_X12_init, q126, ⟨by decide, by decide⟩, rfl, rfl, by decide⟩
theorem v_X1_159_15 : xLV RX1 159 m_X12_reads 15 0 := ⟨RX12, TX12, 6, rfl, by decide, Or.inl ⟨q962, q964, ⟨by decide, by decide⟩, rfl⟩, q963, q126, w_X12_reads, by decide⟩
theorem v_X1_163_0 : xLV RX1 163 m_X1_failed 0 1 := ⟨RX1, TX1, 25, rfl, by decide, Or.inl ⟨q1188, qs14, ⟨by decide, by decide⟩, rfl⟩, q1190, q95, w_X1_failed, by decide⟩
theorem n_X1_167 : xNew RX1 167 16 5 [.null, .int 0, .int 0, .int 0, .int 0] := ⟨RX15, TX15, tyX15, rfl, by decide, in_X15, tyX15_ok, q1199, q1200, q129, rfl, by decide +kernel⟩
theorem i_X1_169 : xLI RX1 169 m_X15_init 2 := ⟨Or.inl q1201, q1202, q1203, w_X15_init, q129, ⟨by decide, by decide⟩, rfl, rfl, by decide⟩
theorem v_X1_170_16 : xLV RX1 170 m_X15_reads 16 0 := ⟨RX15, TX15, 5, rfl, by decide, Or.inl ⟨q1211, q1213, ⟨by decide, by decide⟩, rfl⟩, q1212, q129, w_X15_reads, by decide⟩
theorem n_X1_172 : xNew RX1 172 17 6 [.null, .int 0, .int 0, .int 0, .int 0, .int 0] := ⟨RX22, TX22, tyX22, rfl, by decide, in_X22, tyX22_ok, q1335, q1336, q136, rfl, by decide +kernel⟩
theorem i_X1_174 : xLI RX1 174 m_X22_init 3 := ⟨Or.inl q1337, q1338, q1339, w_X22_init, q136, ⟨by decide, by decide⟩, rfl, rfl, by decide⟩
theorem v_X1_177_17 : xLV RX1 177 m_X22_reads 17 0 := ⟨RX22, TX22, 6, rfl, by decide, Or.inl ⟨q1350, q1352, ⟨by decide, by decide⟩, rfl⟩, q1351, q136, w_X22_reads, by decide⟩
theorem v_X1_180_0 : xLV RX1 180 m_X1_kept 0 3 := ⟨RX1, TX1, 25, rfl, by decide, Or.inl ⟨q862, qs10, ⟨by decide, by decide⟩, rfl⟩, q864, q95, w_X1_kept, by decide⟩
theorem p_X1_184_3 : xFldP RX1 184 3 7 .int false := ⟨RX8, TX8, 11, "LeaningMarket$Market", tyX8, rfl, by decide, by decide, in_X8, Or.inr ⟨rfl, "LeaningMarket", xnw_in q599 rfl⟩, Or.inl rfl, tyX8_ok, nmX8, rfl, (fun h => nomatch h), rfl⟩
theorem f_X1_187_3 : xFld RX1 187 3 8 := ⟨RX8, TX8, 11, "LeaningMarket$Market", rfl, by decide, by decide, in_X8, Or.inr ⟨"LeaningMarket", xnw_in q601 rfl⟩, Or.inl rfl⟩
theorem p_X1_187_3 : xFldP RX1 187 3 8 .int false := ⟨RX8, TX8, 11, "LeaningMarket$Market", tyX8, rfl, by decide, by decide, in_X8, Or.inr ⟨rfl, "LeaningMarket", xnw_in q601 rfl⟩, Or.inl rfl, tyX8_ok, nmX8, rfl, (fun h => nomatch h), rfl⟩
theorem f_X1_190_3 : xFld RX1 190 3 9 := ⟨RX8, TX8, 11, "LeaningMarket$Market", rfl, by decide, by decide, in_X8, Or.inr ⟨"LeaningMarket", xnw_in q603 rfl⟩, Or.inl rfl⟩
theorem p_X1_190_3 : xFldP RX1 190 3 9 .int false := ⟨RX8, TX8, 11, "LeaningMarket$Market", tyX8, rfl, by decide, by decide, in_X8, Or.inr ⟨rfl, "LeaningMarket", xnw_in q603 rfl⟩, Or.inl rfl, tyX8_ok, nmX8, rfl, (fun h => nomatch h), rfl⟩
theorem v_X1_192_2 : xLV RX1 192 m_J2_size 2 0 := ⟨RJ2, TJ2, 3, rfl, by decide, Or.inl ⟨q842, q648, ⟨by decide, by decide⟩, rfl⟩, q647, q99, w_J2_size, by decide⟩
theorem v_X1_198_2 : xLV RX1 198 m_J2_get 2 1 := ⟨RJ2, TJ2, 3, rfl, by decide, Or.inl ⟨q843, q652, ⟨by decide, by decide⟩, rfl⟩, q651, q99, w_J2_get, by decide⟩
theorem v_X1_204_19 : xLV RX1 204 m_X24_goes 19 1 := ⟨RX25, TX25, 1, rfl, by decide, Or.inr (Or.inr ⟨⟨"LeaningMarket$Step", "goes", "(LLeaningMarket$Market;)V"⟩, "LeaningMarket$Step", q1469, q1471, Or.inr (xnw_in q1470 rfl), q1624, ⟨by decide, by decide⟩, rfl⟩), q1483, q138, w_X24_goes, by decide⟩
theorem v_X1_204_20 : xLV RX1 204 m_X24_goes 20 1 := ⟨RX26, TX26, 1, rfl, by decide, Or.inr (Or.inr ⟨⟨"LeaningMarket$Step", "goes", "(LLeaningMarket$Market;)V"⟩, "LeaningMarket$Step", q1469, q1471, Or.inr (xnw_in q1470 rfl), q1622, ⟨by decide, by decide⟩, rfl⟩), q1483, q138, w_X24_goes, by decide⟩
theorem v_X1_204_21 : xLV RX1 204 m_X24_goes 21 1 := ⟨RX27, TX27, 2, rfl, by decide, Or.inr (Or.inr ⟨⟨"LeaningMarket$Step", "goes", "(LLeaningMarket$Market;)V"⟩, "LeaningMarket$Step", q1469, q1471, Or.inr (xnw_in q1470 rfl), q1620, ⟨by decide, by decide⟩, rfl⟩), q1483, q138, w_X24_goes, by decide⟩
theorem v_X1_204_22 : xLV RX1 204 m_X24_goes 22 1 := ⟨RX28, xT0, 0, rfl, by decide, Or.inr (Or.inr ⟨⟨"LeaningMarket$Step", "goes", "(LLeaningMarket$Market;)V"⟩, "LeaningMarket$Step", q1469, q1471, Or.inr (xnw_in q1470 rfl), q1623, ⟨by decide, by decide⟩, rfl⟩), q1483, q138, w_X24_goes, by decide⟩
theorem v_X1_204_23 : xLV RX1 204 m_X24_goes 23 1 := ⟨RX29, xT0, 0, rfl, by decide, Or.inr (Or.inr ⟨⟨"LeaningMarket$Step", "goes", "(LLeaningMarket$Market;)V"⟩, "LeaningMarket$Step", q1469, q1471, Or.inr (xnw_in q1470 rfl), q1621, ⟨by decide, by decide⟩, rfl⟩), q1483, q138, w_X24_goes, by decide⟩
theorem v_X1_204_24 : xLV RX1 204 m_X30_goes 24 1 := ⟨RX30, TX30, 2, rfl, by decide, Or.inr (Or.inr ⟨⟨"LeaningMarket$Step", "goes", "(LLeaningMarket$Market;)V"⟩, "LeaningMarket$Step", q1469, q1471, Or.inr (xnw_in q1470 rfl), q1472, ⟨by decide, by decide⟩, rfl⟩), q1473, q144, w_X30_goes, by decide⟩
theorem n_X1_208 : xNew RX1 208 18 8 [.null, .int 0, .int 0, .int 0, .int 0, .int 0, .null, .int 0] := ⟨RX31, TX31, tyX31, rfl, by decide, in_X31, tyX31_ok, q1632, q1633, q145, rfl, by decide +kernel⟩
theorem i_X1_210 : xLI RX1 210 m_X31_init 3 := ⟨Or.inl q1634, q1635, q1636, w_X31_init, q145, ⟨by decide, by decide⟩, rfl, rfl, by decide⟩
theorem v_X1_211_18 : xLV RX1 211 m_X31_reads 18 0 := ⟨RX31, TX31, 8, rfl, by decide, Or.inl ⟨q1654, q1656, ⟨by decide, by decide⟩, rfl⟩, q1655, q145, w_X31_reads, by decide⟩
theorem f_X1_220_18 : xFld RX1 220 18 7 := ⟨RX31, TX31, 8, "LeaningMarket$BookReader", rfl, by decide, by decide, in_X31, Or.inr ⟨"LeaningMarket", xnw_in q1641 rfl⟩, Or.inl rfl⟩
theorem v_X1_223_3 : xLV RX1 223 m_X8_becomes 3 1 := ⟨RX8, TX8, 11, rfl, by decide, Or.inl ⟨q822, q824, ⟨by decide, by decide⟩, rfl⟩, q823, q121, w_X8_becomes, by decide⟩
theorem s_X1_227 : xLS RX1 227 m_X1_isIn 3 := ⟨Or.inl q1681, q1682, q95, w_X1_isIn, ⟨by decide, by decide⟩, rfl, by decide⟩
theorem f_X1_231_3 : xFld RX1 231 3 3 := ⟨RX8, TX8, 11, "LeaningMarket$Market", rfl, by decide, by decide, in_X8, Or.inr ⟨"LeaningMarket", xnw_in q590 rfl⟩, Or.inl rfl⟩
theorem f_X1_235_3 : xFld RX1 235 3 5 := ⟨RX8, TX8, 11, "LeaningMarket$Market", rfl, by decide, by decide, in_X8, Or.inr ⟨"LeaningMarket", xnw_in q594 rfl⟩, Or.inl rfl⟩
theorem f_X1_238_3 : xFld RX1 238 3 4 := ⟨RX8, TX8, 11, "LeaningMarket$Market", rfl, by decide, by decide, in_X8, Or.inr ⟨"LeaningMarket", xnw_in q592 rfl⟩, Or.inl rfl⟩
theorem f_X1_241_1 : xFld RX1 241 1 4 := ⟨RX2, TX2, 6, "LeaningMarket$Told", rfl, by decide, by decide, in_X2, Or.inr ⟨"LeaningMarket", xnw_in q519 rfl⟩, Or.inl rfl⟩
theorem v_X1_244_3 : xLV RX1 244 m_X8_all 3 0 := ⟨RX8, TX8, 11, rfl, by decide, Or.inl ⟨q1684, q1686, ⟨by decide, by decide⟩, rfl⟩, q1685, q121, w_X8_all, by decide⟩
theorem v_X1_247_3 : xLV RX1 247 m_X8_notSo 3 0 := ⟨RX8, TX8, 11, rfl, by decide, Or.inl ⟨q1688, q1690, ⟨by decide, by decide⟩, rfl⟩, q1689, q121, w_X8_notSo, by decide⟩
theorem v_X1_250_3 : xLV RX1 250 m_X8_inCries 3 0 := ⟨RX8, TX8, 11, rfl, by decide, Or.inl ⟨q1696, q1698, ⟨by decide, by decide⟩, rfl⟩, q1697, q121, w_X8_inCries, by decide⟩
theorem f_X1_253_3 : xFld RX1 253 3 6 := ⟨RX8, TX8, 11, "LeaningMarket$Market", rfl, by decide, by decide, in_X8, Or.inr ⟨"LeaningMarket", xnw_in q596 rfl⟩, Or.inl rfl⟩
theorem v_X1_256_0 : xLV RX1 256 m_X1_needThing 0 1 := ⟨RX1, TX1, 25, rfl, by decide, Or.inl ⟨q1708, qs26, ⟨by decide, by decide⟩, rfl⟩, q1710, q95, w_X1_needThing, by decide⟩
theorem f_X1_259_3 : xFld RX1 259 3 0 := ⟨RX8, TX8, 11, "LeaningMarket$Market", rfl, by decide, by decide, in_X8, Or.inr ⟨"LeaningMarket", xnw_in q585 rfl⟩, Or.inl rfl⟩
theorem f_X1_262_1 : xFld RX1 262 1 0 := ⟨RX2, TX2, 6, "LeaningMarket$Told", rfl, by decide, by decide, in_X2, Or.inr ⟨"LeaningMarket", xnw_in q507 rfl⟩, Or.inl rfl⟩
theorem f_X1_263_3 : xFld RX1 263 3 1 := ⟨RX8, TX8, 11, "LeaningMarket$Market", rfl, by decide, by decide, in_X8, Or.inr ⟨"LeaningMarket", xnw_in q587 rfl⟩, Or.inl rfl⟩
theorem v_X1_266_3 : xLV RX1 266 m_X8_criesOf 3 1 := ⟨RX8, TX8, 11, rfl, by decide, Or.inl ⟨q1731, q1515, ⟨by decide, by decide⟩, rfl⟩, q1514, q121, w_X8_criesOf, by decide⟩
theorem v_X1_270_3 : xLV RX1 270 m_X8_wear 3 1 := ⟨RX8, TX8, 11, rfl, by decide, Or.inl ⟨q1732, q1511, ⟨by decide, by decide⟩, rfl⟩, q1510, q121, w_X8_wear, by decide⟩
theorem f_X1_275_4 : xFld RX1 275 4 0 := ⟨RX14, TX14, 4, "LeaningMarket$Cry", rfl, by decide, by decide, in_X14, Or.inr ⟨"LeaningMarket", xnw_in q1159 rfl⟩, Or.inl rfl⟩
theorem f_X1_278_4 : xFld RX1 278 4 1 := ⟨RX14, TX14, 4, "LeaningMarket$Cry", rfl, by decide, by decide, in_X14, Or.inr ⟨"LeaningMarket", xnw_in q1163 rfl⟩, Or.inl rfl⟩
theorem f_X1_281_4 : xFld RX1 281 4 2 := ⟨RX14, TX14, 4, "LeaningMarket$Cry", rfl, by decide, by decide, in_X14, Or.inr ⟨"LeaningMarket", xnw_in q1167 rfl⟩, Or.inl rfl⟩
theorem f_X1_284_4 : xFld RX1 284 4 3 := ⟨RX14, TX14, 4, "LeaningMarket$Cry", rfl, by decide, by decide, in_X14, Or.inr ⟨"LeaningMarket", xnw_in q1171 rfl⟩, Or.inl rfl⟩
theorem v_X1_287_3 : xLV RX1 287 m_X8_stands 3 4 := ⟨RX8, TX8, 11, rfl, by decide, Or.inl ⟨q1747, q1606, ⟨by decide, by decide⟩, rfl⟩, q1605, q121, w_X8_stands, by decide⟩
theorem v_X1_291_0 : xLV RX1 291 m_X1_wearBy 0 7 := ⟨RX1, TX1, 25, rfl, by decide, Or.inl ⟨q1755, qs23, ⟨by decide, by decide⟩, rfl⟩, q1524, q95, w_X1_wearBy, by decide⟩
theorem v_X1_295_3 : xLV RX1 295 m_X8_passes 3 0 := ⟨RX8, TX8, 11, rfl, by decide, Or.inl ⟨q1763, q1507, ⟨by decide, by decide⟩, rfl⟩, q1506, q121, w_X8_passes, by decide⟩
theorem v_X1_298_3 : xLV RX1 298 m_X8_heaviest 3 0 := ⟨RX8, TX8, 11, rfl, by decide, Or.inl ⟨q1764, q1766, ⟨by decide, by decide⟩, rfl⟩, q1765, q121, w_X8_heaviest, by decide⟩
theorem s_X1_301 : xLS RX1 301 m_X1_isPart 1 := ⟨Or.inl q874, q875, q95, w_X1_isPart, ⟨by decide, by decide⟩, rfl, by decide⟩
theorem f_X1_305_0 : xFld RX1 305 0 19 := ⟨RX1, TX1, 25, "LeaningMarket", rfl, by decide, by decide, in_X1, Or.inl q748, Or.inl rfl⟩
theorem p_X1_305_0 : xFldP RX1 305 0 19 .long false := ⟨RX1, TX1, 25, "LeaningMarket", tyX1, rfl, by decide, by decide, in_X1, Or.inl q748, Or.inl rfl, tyX1_ok, nmX1, rfl, (fun h => nomatch h), rfl⟩
theorem f_X1_309_0 : xFld RX1 309 0 20 := ⟨RX1, TX1, 25, "LeaningMarket", rfl, by decide, by decide, in_X1, Or.inl q749, Or.inl rfl⟩
theorem p_X1_309_0 : xFldP RX1 309 0 20 .long false := ⟨RX1, TX1, 25, "LeaningMarket", tyX1, rfl, by decide, by decide, in_X1, Or.inl q749, Or.inl rfl, tyX1_ok, nmX1, rfl, (fun h => nomatch h), rfl⟩
theorem f_X1_312_0 : xFld RX1 312 0 21 := ⟨RX1, TX1, 25, "LeaningMarket", rfl, by decide, by decide, in_X1, Or.inl q750, Or.inl rfl⟩
theorem p_X1_312_0 : xFldP RX1 312 0 21 .int false := ⟨RX1, TX1, 25, "LeaningMarket", tyX1, rfl, by decide, by decide, in_X1, Or.inl q750, Or.inl rfl, tyX1_ok, nmX1, rfl, (fun h => nomatch h), rfl⟩
theorem s_X1_315 : xLS RX1 315 m_X1_has 2 := ⟨Or.inl q845, q846, q95, w_X1_has, ⟨by decide, by decide⟩, rfl, by decide⟩
theorem v_X1_319_0 : xLV RX1 319 m_X1_chains 0 7 := ⟨RX1, TX1, 25, rfl, by decide, Or.inl ⟨q838, qs9, ⟨by decide, by decide⟩, rfl⟩, q840, q95, w_X1_chains, by decide⟩
theorem v_X1_323_0 : xLV RX1 323 m_X1_nothingYet 0 0 := ⟨RX1, TX1, 25, rfl, by decide, Or.inl ⟨q834, qs8, ⟨by decide, by decide⟩, rfl⟩, q836, q95, w_X1_nothingYet, by decide⟩
theorem v_X1_326_0 : xLV RX1 326 m_X1_findChain 0 2 := ⟨RX1, TX1, 25, rfl, by decide, Or.inl ⟨q1775, qs28, ⟨by decide, by decide⟩, rfl⟩, q1777, q95, w_X1_findChain, by decide⟩
theorem s_X1_329 : xLS RX1 329 m_X1_least 3 := ⟨Or.inl q1779, q1780, q95, w_X1_least, ⟨by decide, by decide⟩, rfl, by decide⟩
theorem v_X1_333_0 : xLV RX1 333 m_X1_findRings 0 1 := ⟨RX1, TX1, 25, rfl, by decide, Or.inl ⟨q830, qs7, ⟨by decide, by decide⟩, rfl⟩, q832, q95, w_X1_findRings, by decide⟩
theorem s_X1_336 : xLS RX1 336 m_J16_bitCount 1 := ⟨Or.inl q852, q853, q115, w_J16_bitCount, ⟨by decide, by decide⟩, rfl, by decide⟩
theorem v_X1_341_0 : xLV RX1 341 m_X1_needSet 0 1 := ⟨RX1, TX1, 25, rfl, by decide, Or.inl ⟨q1796, qs29, ⟨by decide, by decide⟩, rfl⟩, q1798, q95, w_X1_needSet, by decide⟩
theorem v_X1_344_0 : xLV RX1 344 m_X1_layMatch 0 1 := ⟨RX1, TX1, 25, rfl, by decide, Or.inl ⟨q1800, qs30, ⟨by decide, by decide⟩, rfl⟩, q1802, q95, w_X1_layMatch, by decide⟩
theorem v_X1_347_0 : xLV RX1 347 m_X1_weightOf 0 1 := ⟨RX1, TX1, 25, rfl, by decide, Or.inl ⟨q1818, qs31, ⟨by decide, by decide⟩, rfl⟩, q1820, q95, w_X1_weightOf, by decide⟩
theorem s_X1_350 : xLS RX1 350 m_J16_numberOfTrailingZeros 1 := ⟨Or.inl q1822, q1823, q115, w_J16_numberOfTrailingZeros, ⟨by decide, by decide⟩, rfl, by decide⟩
theorem s_X1_353 : xLS RX1 353 m_J12_abs 1 := ⟨Or.inl q1826, q1827, q109, w_J12_abs, ⟨by decide, by decide⟩, rfl, by decide⟩
theorem s_X1_356 : xLS RX1 356 m_X1_standsBy 3 := ⟨Or.inl q1840, q1609, q95, w_X1_standsBy, ⟨by decide, by decide⟩, rfl, by decide⟩
theorem v_X1_360_0 : xLV RX1 360 m_X1_isFit 0 2 := ⟨RX1, TX1, 25, rfl, by decide, Or.inl ⟨q1836, qs32, ⟨by decide, by decide⟩, rfl⟩, q1838, q95, w_X1_isFit, by decide⟩
theorem v_X1_363_0 : xLV RX1 363 m_X1_worstOf 0 2 := ⟨RX1, TX1, 25, rfl, by decide, Or.inl ⟨q1848, qs33, ⟨by decide, by decide⟩, rfl⟩, q1850, q95, w_X1_worstOf, by decide⟩
theorem s_X1_366 : xLS RX1 366 m_X1_hasBy 4 := ⟨Or.inl q1866, q1867, q95, w_X1_hasBy, ⟨by decide, by decide⟩, rfl, by decide⟩
theorem v_X1_371_0 : xLV RX1 371 m_X1_shared 0 2 := ⟨RX1, TX1, 25, rfl, by decide, Or.inl ⟨q1884, qs34, ⟨by decide, by decide⟩, rfl⟩, q1886, q95, w_X1_shared, by decide⟩
theorem f_X1_374_0 : xFld RX1 374 0 14 := ⟨RX1, TX1, 25, "LeaningMarket", rfl, by decide, by decide, in_X1, Or.inl q743, Or.inl rfl⟩
theorem p_X1_374_0 : xFldP RX1 374 0 14 .int false := ⟨RX1, TX1, 25, "LeaningMarket", tyX1, rfl, by decide, by decide, in_X1, Or.inl q743, Or.inl rfl, tyX1_ok, nmX1, rfl, (fun h => nomatch h), rfl⟩
theorem v_X1_378_0 : xLV RX1 378 m_X1_draw 0 1 := ⟨RX1, TX1, 25, rfl, by decide, Or.inl ⟨q1930, qs36, ⟨by decide, by decide⟩, rfl⟩, q1932, q95, w_X1_draw, by decide⟩
theorem v_X1_381_3 : xLV RX1 381 m_X8_weighs 3 4 := ⟨RX8, TX8, 11, rfl, by decide, Or.inl ⟨q1935, q1602, ⟨by decide, by decide⟩, rfl⟩, q1601, q121, w_X8_weighs, by decide⟩
theorem v_X1_385_3 : xLV RX1 385 m_X8_tips 3 1 := ⟨RX8, TX8, 11, rfl, by decide, Or.inl ⟨q1936, q1579, ⟨by decide, by decide⟩, rfl⟩, q1578, q121, w_X8_tips, by decide⟩
theorem s_X1_388 : xLS RX1 388 m_X1_isFair 2 := ⟨Or.inl q1923, q1924, q95, w_X1_isFair, ⟨by decide, by decide⟩, rfl, by decide⟩
theorem v_X1_391_0 : xLV RX1 391 m_X1_fairBy 0 3 := ⟨RX1, TX1, 25, rfl, by decide, Or.inl ⟨q1926, qs35, ⟨by decide, by decide⟩, rfl⟩, q1928, q95, w_X1_fairBy, by decide⟩
theorem i_X10_3 : xLI RX10 3 m_J19_init 0 := ⟨Or.inl q916, q153, q154, w_J19_init, q2560, ⟨by decide, by decide⟩, rfl, rfl, by decide⟩
theorem f_X10_9_18 : xFld RX10 9 18 0 := ⟨RX31, TX31, 8, "LeaningMarket$Reader", rfl, by decide, by decide, in_X31, Or.inl q920, Or.inl rfl⟩
theorem p_X10_9_18 : xFldP RX10 9 18 0 (.array .byte) true := ⟨RX31, TX31, 8, "LeaningMarket$Reader", tyX31, rfl, by decide, by decide, in_X31, Or.inl q920, Or.inl rfl, tyX31_ok, nmX31, rfl, (fun _ => rfl), rfl⟩
theorem f_X10_9_17 : xFld RX10 9 17 0 := ⟨RX22, TX22, 6, "LeaningMarket$Reader", rfl, by decide, by decide, in_X22, Or.inl q920, Or.inl rfl⟩
theorem p_X10_9_17 : xFldP RX10 9 17 0 (.array .byte) true := ⟨RX22, TX22, 6, "LeaningMarket$Reader", tyX22, rfl, by decide, by decide, in_X22, Or.inl q920, Or.inl rfl, tyX22_ok, nmX22, rfl, (fun _ => rfl), rfl⟩
theorem f_X10_9_15 : xFld RX10 9 15 0 := ⟨RX12, TX12, 6, "LeaningMarket$Reader", rfl, by decide, by decide, in_X12, Or.inl q920, Or.inl rfl⟩
theorem p_X10_9_15 : xFldP RX10 9 15 0 (.array .byte) true := ⟨RX12, TX12, 6, "LeaningMarket$Reader", tyX12, rfl, by decide, by decide, in_X12, Or.inl q920, Or.inl rfl, tyX12_ok, nmX12, rfl, (fun _ => rfl), rfl⟩
theorem f_X10_9_16 : xFld RX10 9 16 0 := ⟨RX15, TX15, 5, "LeaningMarket$Reader", rfl, by decide, by decide, in_X15, Or.inl q920, Or.inl rfl⟩
theorem p_X10_9_16 : xFldP RX10 9 16 0 (.array .byte) true := ⟨RX15, TX15, 5, "LeaningMarket$Reader", tyX15, rfl, by decide, by decide, in_X15, Or.inl q920, Or.inl rfl, tyX15_ok, nmX15, rfl, (fun _ => rfl), rfl⟩
theorem f_X10_15_18 : xFld RX10 15 18 1 := ⟨RX31, TX31, 8, "LeaningMarket$Reader", rfl, by decide, by decide, in_X31, Or.inl q921, Or.inl rfl⟩
theorem p_X10_15_18 : xFldP RX10 15 18 1 .int true := ⟨RX31, TX31, 8, "LeaningMarket$Reader", tyX31, rfl, by decide, by decide, in_X31, Or.inl q921, Or.inl rfl, tyX31_ok, nmX31, rfl, (fun _ => rfl), rfl⟩
theorem f_X10_15_17 : xFld RX10 15 17 1 := ⟨RX22, TX22, 6, "LeaningMarket$Reader", rfl, by decide, by decide, in_X22, Or.inl q921, Or.inl rfl⟩
theorem p_X10_15_17 : xFldP RX10 15 17 1 .int true := ⟨RX22, TX22, 6, "LeaningMarket$Reader", tyX22, rfl, by decide, by decide, in_X22, Or.inl q921, Or.inl rfl, tyX22_ok, nmX22, rfl, (fun _ => rfl), rfl⟩
theorem f_X10_15_15 : xFld RX10 15 15 1 := ⟨RX12, TX12, 6, "LeaningMarket$Reader", rfl, by decide, by decide, in_X12, Or.inl q921, Or.inl rfl⟩
theorem p_X10_15_15 : xFldP RX10 15 15 1 .int true := ⟨RX12, TX12, 6, "LeaningMarket$Reader", tyX12, rfl, by decide, by decide, in_X12, Or.inl q921, Or.inl rfl, tyX12_ok, nmX12, rfl, (fun _ => rfl), rfl⟩
theorem f_X10_15_16 : xFld RX10 15 16 1 := ⟨RX15, TX15, 5, "LeaningMarket$Reader", rfl, by decide, by decide, in_X15, Or.inl q921, Or.inl rfl⟩
theorem p_X10_15_16 : xFldP RX10 15 16 1 .int true := ⟨RX15, TX15, 5, "LeaningMarket$Reader", tyX15, rfl, by decide, by decide, in_X15, Or.inl q921, Or.inl rfl, tyX15_ok, nmX15, rfl, (fun _ => rfl), rfl⟩
theorem f_X10_19_18 : xFld RX10 19 18 2 := ⟨RX31, TX31, 8, "LeaningMarket$Reader", rfl, by decide, by decide, in_X31, Or.inl q930, Or.inl rfl⟩
theorem p_X10_19_18 : xFldP RX10 19 18 2 .int false := ⟨RX31, TX31, 8, "LeaningMarket$Reader", tyX31, rfl, by decide, by decide, in_X31, Or.inl q930, Or.inl rfl, tyX31_ok, nmX31, rfl, (fun h => nomatch h), rfl⟩
theorem f_X10_19_17 : xFld RX10 19 17 2 := ⟨RX22, TX22, 6, "LeaningMarket$Reader", rfl, by decide, by decide, in_X22, Or.inl q930, Or.inl rfl⟩
theorem p_X10_19_17 : xFldP RX10 19 17 2 .int false := ⟨RX22, TX22, 6, "LeaningMarket$Reader", tyX22, rfl, by decide, by decide, in_X22, Or.inl q930, Or.inl rfl, tyX22_ok, nmX22, rfl, (fun h => nomatch h), rfl⟩
theorem f_X10_19_15 : xFld RX10 19 15 2 := ⟨RX12, TX12, 6, "LeaningMarket$Reader", rfl, by decide, by decide, in_X12, Or.inl q930, Or.inl rfl⟩
theorem p_X10_19_15 : xFldP RX10 19 15 2 .int false := ⟨RX12, TX12, 6, "LeaningMarket$Reader", tyX12, rfl, by decide, by decide, in_X12, Or.inl q930, Or.inl rfl, tyX12_ok, nmX12, rfl, (fun h => nomatch h), rfl⟩
theorem f_X10_19_16 : xFld RX10 19 16 2 := ⟨RX15, TX15, 5, "LeaningMarket$Reader", rfl, by decide, by decide, in_X15, Or.inl q930, Or.inl rfl⟩
theorem p_X10_19_16 : xFldP RX10 19 16 2 .int false := ⟨RX15, TX15, 5, "LeaningMarket$Reader", tyX15, rfl, by decide, by decide, in_X15, Or.inl q930, Or.inl rfl, tyX15_ok, nmX15, rfl, (fun h => nomatch h), rfl⟩
theorem v_X10_22_15 : xLV RX10 22 m_X10_sign 15 0 := ⟨RX12, TX12, 6, rfl, by decide, Or.inl ⟨q978, q2551, ⟨by decide, by decide⟩, rfl⟩, q970, q124, w_X10_sign, by decide⟩
theorem v_X10_22_16 : xLV RX10 22 m_X10_sign 16 0 := ⟨RX15, TX15, 5, rfl, by decide, Or.inl ⟨q978, q2550, ⟨by decide, by decide⟩, rfl⟩, q970, q124, w_X10_sign, by decide⟩
theorem v_X10_22_17 : xLV RX10 22 m_X10_sign 17 0 := ⟨RX22, TX22, 6, rfl, by decide, Or.inl ⟨q978, q2552, ⟨by decide, by decide⟩, rfl⟩, q970, q124, w_X10_sign, by decide⟩
theorem v_X10_22_18 : xLV RX10 22 m_X10_sign 18 0 := ⟨RX31, TX31, 8, rfl, by decide, Or.inl ⟨q978, q2549, ⟨by decide, by decide⟩, rfl⟩, q970, q124, w_X10_sign, by decide⟩
theorem n_X10_26 : xNew RX10 26 25 4 [.null, .int 0, .int 0, .int 0] := ⟨RJ8, TJ8, tyJ8, rfl, by decide, in_J8, tyJ8_ok, q979, q219, q105, rfl, by decide +kernel⟩
theorem i_X10_28 : xLI RX10 28 m_J8_init 0 := ⟨Or.inl q980, q221, q222, w_J8_init, q105, ⟨by decide, by decide⟩, rfl, rfl, by decide⟩
theorem v_X10_29_25 : xLV RX10 29 m_J8_length 25 0 := ⟨RJ8, TJ8, 4, rfl, by decide, Or.inl ⟨q981, q2553, ⟨by decide, by decide⟩, rfl⟩, q419, q105, w_J8_length, by decide⟩
theorem v_X10_32_25 : xLV RX10 32 m_J8_append_3 25 1 := ⟨RJ8, TJ8, 4, rfl, by decide, Or.inl ⟨q982, q984, ⟨by decide, by decide⟩, rfl⟩, q983, q105, w_J8_append_3, by decide⟩
theorem v_X10_36_25 : xLV RX10 36 m_J8_toString 25 0 := ⟨RJ8, TJ8, 4, rfl, by decide, Or.inl ⟨q1002, q399, ⟨by decide, by decide⟩, rfl⟩, q398, q105, w_J8_toString, by decide⟩
theorem n_X10_40 : xNew RX10 40 14 8 [.null, .null, .null, .null, .null, .int 0, .int 0, .int 0] := ⟨RX13, TX13, tyX13, rfl, by decide, in_X13, tyX13_ok, q1085, q1086, q127, rfl, by decide +kernel⟩
theorem i_X10_42 : xLI RX10 42 m_X13_init 2 := ⟨Or.inl q1094, q1095, q1096, w_X13_init, q127, ⟨by decide, by decide⟩, rfl, rfl, by decide⟩
theorem v_X10_45_15 : xLV RX10 45 m_X10_wrong 15 0 := ⟨RX12, TX12, 6, rfl, by decide, Or.inl ⟨q1127, q2558, ⟨by decide, by decide⟩, rfl⟩, q1083, q124, w_X10_wrong, by decide⟩
theorem v_X10_45_16 : xLV RX10 45 m_X10_wrong 16 0 := ⟨RX15, TX15, 5, rfl, by decide, Or.inl ⟨q1127, q2557, ⟨by decide, by decide⟩, rfl⟩, q1083, q124, w_X10_wrong, by decide⟩
theorem v_X10_45_17 : xLV RX10 45 m_X10_wrong 17 0 := ⟨RX22, TX22, 6, rfl, by decide, Or.inl ⟨q1127, q2559, ⟨by decide, by decide⟩, rfl⟩, q1083, q124, w_X10_wrong, by decide⟩
theorem v_X10_45_18 : xLV RX10 45 m_X10_wrong 18 0 := ⟨RX31, TX31, 8, rfl, by decide, Or.inl ⟨q1127, q2556, ⟨by decide, by decide⟩, rfl⟩, q1083, q124, w_X10_wrong, by decide⟩
theorem f_X10_49_18 : xFld RX10 49 18 4 := ⟨RX31, TX31, 8, "LeaningMarket$Reader", rfl, by decide, by decide, in_X31, Or.inl q948, Or.inl rfl⟩
theorem p_X10_49_18 : xFldP RX10 49 18 4 .int false := ⟨RX31, TX31, 8, "LeaningMarket$Reader", tyX31, rfl, by decide, by decide, in_X31, Or.inl q948, Or.inl rfl, tyX31_ok, nmX31, rfl, (fun h => nomatch h), rfl⟩
theorem f_X10_49_17 : xFld RX10 49 17 4 := ⟨RX22, TX22, 6, "LeaningMarket$Reader", rfl, by decide, by decide, in_X22, Or.inl q948, Or.inl rfl⟩
theorem p_X10_49_17 : xFldP RX10 49 17 4 .int false := ⟨RX22, TX22, 6, "LeaningMarket$Reader", tyX22, rfl, by decide, by decide, in_X22, Or.inl q948, Or.inl rfl, tyX22_ok, nmX22, rfl, (fun h => nomatch h), rfl⟩
theorem f_X10_49_15 : xFld RX10 49 15 4 := ⟨RX12, TX12, 6, "LeaningMarket$Reader", rfl, by decide, by decide, in_X12, Or.inl q948, Or.inl rfl⟩
theorem p_X10_49_15 : xFldP RX10 49 15 4 .int false := ⟨RX12, TX12, 6, "LeaningMarket$Reader", tyX12, rfl, by decide, by decide, in_X12, Or.inl q948, Or.inl rfl, tyX12_ok, nmX12, rfl, (fun h => nomatch h), rfl⟩
theorem f_X10_49_16 : xFld RX10 49 16 4 := ⟨RX15, TX15, 5, "LeaningMarket$Reader", rfl, by decide, by decide, in_X15, Or.inl q948, Or.inl rfl⟩
theorem p_X10_49_16 : xFldP RX10 49 16 4 .int false := ⟨RX15, TX15, 5, "LeaningMarket$Reader", tyX15, rfl, by decide, by decide, in_X15, Or.inl q948, Or.inl rfl, tyX15_ok, nmX15, rfl, (fun h => nomatch h), rfl⟩
theorem f_X10_52_18 : xFld RX10 52 18 3 := ⟨RX31, TX31, 8, "LeaningMarket$Reader", rfl, by decide, by decide, in_X31, Or.inl q943, Or.inl rfl⟩
theorem p_X10_52_18 : xFldP RX10 52 18 3 .int false := ⟨RX31, TX31, 8, "LeaningMarket$Reader", tyX31, rfl, by decide, by decide, in_X31, Or.inl q943, Or.inl rfl, tyX31_ok, nmX31, rfl, (fun h => nomatch h), rfl⟩
theorem f_X10_52_17 : xFld RX10 52 17 3 := ⟨RX22, TX22, 6, "LeaningMarket$Reader", rfl, by decide, by decide, in_X22, Or.inl q943, Or.inl rfl⟩
theorem p_X10_52_17 : xFldP RX10 52 17 3 .int false := ⟨RX22, TX22, 6, "LeaningMarket$Reader", tyX22, rfl, by decide, by decide, in_X22, Or.inl q943, Or.inl rfl, tyX22_ok, nmX22, rfl, (fun h => nomatch h), rfl⟩
theorem f_X10_52_15 : xFld RX10 52 15 3 := ⟨RX12, TX12, 6, "LeaningMarket$Reader", rfl, by decide, by decide, in_X12, Or.inl q943, Or.inl rfl⟩
theorem p_X10_52_15 : xFldP RX10 52 15 3 .int false := ⟨RX12, TX12, 6, "LeaningMarket$Reader", tyX12, rfl, by decide, by decide, in_X12, Or.inl q943, Or.inl rfl, tyX12_ok, nmX12, rfl, (fun h => nomatch h), rfl⟩
theorem f_X10_52_16 : xFld RX10 52 16 3 := ⟨RX15, TX15, 5, "LeaningMarket$Reader", rfl, by decide, by decide, in_X15, Or.inl q943, Or.inl rfl⟩
theorem p_X10_52_16 : xFldP RX10 52 16 3 .int false := ⟨RX15, TX15, 5, "LeaningMarket$Reader", tyX15, rfl, by decide, by decide, in_X15, Or.inl q943, Or.inl rfl, tyX15_ok, nmX15, rfl, (fun h => nomatch h), rfl⟩
theorem s_X10_56 : xLS RX10 56 m_J12_min 2 := ⟨Or.inl q1129, q293, q109, w_J12_min, ⟨by decide, by decide⟩, rfl, by decide⟩
theorem i_X11_3 : xLI RX11 3 m_X10_init 2 := ⟨Or.inl q913, q914, q915, w_X10_init, q124, ⟨by decide, by decide⟩, rfl, rfl, by decide⟩
theorem v_X11_9_15 : xLV RX11 9 m_X10_number 15 2 := ⟨RX12, TX12, 6, rfl, by decide, Or.inr (Or.inr ⟨⟨"LeaningMarket$PanReader", "number", "(II)I"⟩, "LeaningMarket$Reader", q1136, q1137, Or.inr (xnw_in q1123 rfl), q1139, ⟨by decide, by decide⟩, rfl⟩), q1125, q124, w_X10_number, by decide⟩
theorem v_X11_9_17 : xLV RX11 9 m_X10_number 17 2 := ⟨RX22, TX22, 6, rfl, by decide, Or.inr (Or.inr ⟨⟨"LeaningMarket$PanReader", "number", "(II)I"⟩, "LeaningMarket$Reader", q1136, q1137, Or.inr (xnw_in q1123 rfl), q1140, ⟨by decide, by decide⟩, rfl⟩), q1125, q124, w_X10_number, by decide⟩
theorem v_X11_9_18 : xLV RX11 9 m_X10_number 18 2 := ⟨RX31, TX31, 8, rfl, by decide, Or.inr (Or.inr ⟨⟨"LeaningMarket$PanReader", "number", "(II)I"⟩, "LeaningMarket$Reader", q1136, q1137, Or.inr (xnw_in q1123 rfl), q1138, ⟨by decide, by decide⟩, rfl⟩), q1125, q124, w_X10_number, by decide⟩
theorem v_X11_15_15 : xLV RX11 15 m_X11_other 15 2 := ⟨RX12, TX12, 6, rfl, by decide, Or.inl ⟨q1141, q1145, ⟨by decide, by decide⟩, rfl⟩, q1142, q125, w_X11_other, by decide⟩
theorem v_X11_15_17 : xLV RX11 15 m_X11_other 17 2 := ⟨RX22, TX22, 6, rfl, by decide, Or.inl ⟨q1141, q1146, ⟨by decide, by decide⟩, rfl⟩, q1142, q125, w_X11_other, by decide⟩
theorem v_X11_15_18 : xLV RX11 15 m_X11_other 18 2 := ⟨RX31, TX31, 8, rfl, by decide, Or.inl ⟨q1141, q1144, ⟨by decide, by decide⟩, rfl⟩, q1142, q125, w_X11_other, by decide⟩
theorem n_X11_18 : xNew RX11 18 4 4 [.int 0, .int 0, .int 0, .int 0] := ⟨RX14, TX14, tyX14, rfl, by decide, in_X14, tyX14_ok, q1150, q1151, q128, rfl, by decide +kernel⟩
theorem i_X11_20 : xLI RX11 20 m_X14_init 4 := ⟨Or.inl q1152, q1153, q1154, w_X14_init, q128, ⟨by decide, by decide⟩, rfl, rfl, by decide⟩
theorem n_X11_23 : xNew RX11 23 14 8 [.null, .null, .null, .null, .null, .int 0, .int 0, .int 0] := ⟨RX13, TX13, tyX13, rfl, by decide, in_X13, tyX13_ok, q1148, q1086, q127, rfl, by decide +kernel⟩
theorem f_X11_25_18 : xFld RX11 25 18 3 := ⟨RX31, TX31, 8, "LeaningMarket$PanReader", rfl, by decide, by decide, in_X31, Or.inl q941, Or.inr q942⟩
theorem f_X11_25_17 : xFld RX11 25 17 3 := ⟨RX22, TX22, 6, "LeaningMarket$PanReader", rfl, by decide, by decide, in_X22, Or.inl q941, Or.inr q942⟩
theorem f_X11_25_15 : xFld RX11 25 15 3 := ⟨RX12, TX12, 6, "LeaningMarket$PanReader", rfl, by decide, by decide, in_X12, Or.inl q941, Or.inr q942⟩
theorem f_X11_25_16 : xFld RX11 25 16 3 := ⟨RX15, TX15, 5, "LeaningMarket$PanReader", rfl, by decide, by decide, in_X15, Or.inl q941, Or.inr q942⟩
theorem i_X11_29 : xLI RX11 29 m_X13_init 2 := ⟨Or.inl q1149, q1095, q1096, w_X13_init, q127, ⟨by decide, by decide⟩, rfl, rfl, by decide⟩
theorem i_X12_3 : xLI RX12 3 m_X11_init 2 := ⟨Or.inl q910, q911, q912, w_X11_init, q125, ⟨by decide, by decide⟩, rfl, rfl, by decide⟩
theorem n_X12_9 : xNew RX12 9 1 6 [.null, .null, .int 0, .int 0, .int 0, .int 0] := ⟨RX2, TX2, tyX2, rfl, by decide, in_X2, tyX2_ok, q917, q156, q96, rfl, by decide +kernel⟩
theorem i_X12_11 : xLI RX12 11 m_X2_init 0 := ⟨Or.inr ⟨"LeaningMarket", xnw_in q918 rfl⟩, q158, q159, w_X2_init, q96, ⟨by decide, by decide⟩, rfl, rfl, by decide⟩
theorem f_X12_14_15 : xFld RX12 14 15 5 := ⟨RX12, TX12, 6, "LeaningMarket$MarketReader", rfl, by decide, by decide, in_X12, Or.inl q919, Or.inl rfl⟩
theorem p_X12_14_15 : xFldP RX12 14 15 5 (.object "LeaningMarket$Told") true := ⟨RX12, TX12, 6, "LeaningMarket$MarketReader", tyX12, rfl, by decide, by decide, in_X12, Or.inl q919, Or.inl rfl, tyX12_ok, nmX12, rfl, (fun _ => rfl), rfl⟩
theorem v_X12_20_15 : xLV RX12 20 m_X10_sign 15 0 := ⟨RX12, TX12, 6, rfl, by decide, Or.inr (Or.inr ⟨⟨"LeaningMarket$MarketReader", "sign", "()I"⟩, "LeaningMarket$Reader", q966, q967, Or.inr (xnw_in q968 rfl), q969, ⟨by decide, by decide⟩, rfl⟩), q970, q124, w_X10_sign, by decide⟩
theorem f_X12_24_18 : xFld RX12 24 18 2 := ⟨RX31, TX31, 8, "LeaningMarket$MarketReader", rfl, by decide, by decide, in_X31, Or.inl q931, Or.inr q932⟩
theorem p_X12_24_18 : xFldP RX12 24 18 2 .int false := ⟨RX31, TX31, 8, "LeaningMarket$MarketReader", tyX31, rfl, by decide, by decide, in_X31, Or.inl q931, Or.inr q932, tyX31_ok, nmX31, rfl, (fun h => nomatch h), rfl⟩
theorem f_X12_24_17 : xFld RX12 24 17 2 := ⟨RX22, TX22, 6, "LeaningMarket$MarketReader", rfl, by decide, by decide, in_X22, Or.inl q931, Or.inr q932⟩
theorem p_X12_24_17 : xFldP RX12 24 17 2 .int false := ⟨RX22, TX22, 6, "LeaningMarket$MarketReader", tyX22, rfl, by decide, by decide, in_X22, Or.inl q931, Or.inr q932, tyX22_ok, nmX22, rfl, (fun h => nomatch h), rfl⟩
theorem f_X12_24_15 : xFld RX12 24 15 2 := ⟨RX12, TX12, 6, "LeaningMarket$MarketReader", rfl, by decide, by decide, in_X12, Or.inl q931, Or.inr q932⟩
theorem p_X12_24_15 : xFldP RX12 24 15 2 .int false := ⟨RX12, TX12, 6, "LeaningMarket$MarketReader", tyX12, rfl, by decide, by decide, in_X12, Or.inl q931, Or.inr q932, tyX12_ok, nmX12, rfl, (fun h => nomatch h), rfl⟩
theorem f_X12_24_16 : xFld RX12 24 16 2 := ⟨RX15, TX15, 5, "LeaningMarket$MarketReader", rfl, by decide, by decide, in_X15, Or.inl q931, Or.inr q932⟩
theorem p_X12_24_16 : xFldP RX12 24 16 2 .int false := ⟨RX15, TX15, 5, "LeaningMarket$MarketReader", tyX15, rfl, by decide, by decide, in_X15, Or.inl q931, Or.inr q932, tyX15_ok, nmX15, rfl, (fun h => nomatch h), rfl⟩
theorem f_X12_28_18 : xFld RX12 28 18 1 := ⟨RX31, TX31, 8, "LeaningMarket$MarketReader", rfl, by decide, by decide, in_X31, Or.inl q922, Or.inr q923⟩
theorem f_X12_28_17 : xFld RX12 28 17 1 := ⟨RX22, TX22, 6, "LeaningMarket$MarketReader", rfl, by decide, by decide, in_X22, Or.inl q922, Or.inr q923⟩
theorem f_X12_28_15 : xFld RX12 28 15 1 := ⟨RX12, TX12, 6, "LeaningMarket$MarketReader", rfl, by decide, by decide, in_X12, Or.inl q922, Or.inr q923⟩
theorem f_X12_28_16 : xFld RX12 28 16 1 := ⟨RX15, TX15, 5, "LeaningMarket$MarketReader", rfl, by decide, by decide, in_X15, Or.inl q922, Or.inr q923⟩
theorem v_X12_31_15 : xLV RX12 31 m_X10_word 15 0 := ⟨RX12, TX12, 6, rfl, by decide, Or.inr (Or.inr ⟨⟨"LeaningMarket$MarketReader", "word", "()Ljava/lang/String;"⟩, "LeaningMarket$Reader", q972, q973, Or.inr (xnw_in q974 rfl), q975, ⟨by decide, by decide⟩, rfl⟩), q976, q124, w_X10_word, by decide⟩
theorem v_X12_35_15 : xLV RX12 35 m_X12_clause 15 1 := ⟨RX12, TX12, 6, rfl, by decide, Or.inl ⟨q1003, qs12, ⟨by decide, by decide⟩, rfl⟩, q1005, q126, w_X12_clause, by decide⟩
theorem v_X12_39_15 : xLV RX12 39 m_X10_need 15 1 := ⟨RX12, TX12, 6, rfl, by decide, Or.inr (Or.inr ⟨⟨"LeaningMarket$MarketReader", "need", "(I)V"⟩, "LeaningMarket$Reader", q1182, q1183, Or.inr (xnw_in q1184 rfl), q1185, ⟨by decide, by decide⟩, rfl⟩), q1186, q124, w_X10_need, by decide⟩
theorem f_X12_43_1 : xFld RX12 43 1 5 := ⟨RX2, TX2, 6, "LeaningMarket$Told", rfl, by decide, by decide, in_X2, Or.inr ⟨"LeaningMarket", xnw_in q520 rfl⟩, Or.inl rfl⟩
theorem p_X12_43_1 : xFldP RX12 43 1 5 .int false := ⟨RX2, TX2, 6, "LeaningMarket$Told", tyX2, rfl, by decide, by decide, in_X2, Or.inr ⟨rfl, "LeaningMarket", xnw_in q520 rfl⟩, Or.inl rfl, tyX2_ok, nmX2, rfl, (fun h => nomatch h), rfl⟩
theorem v_X12_46_26 : xLV RX12 46 m_J9_hashCode 26 0 := ⟨RJ9, TJ9, 4, rfl, by decide, Or.inl ⟨q1007, q1009, ⟨by decide, by decide⟩, rfl⟩, q1008, q106, w_J9_hashCode, by decide⟩
theorem v_X12_53_26 : xLV RX12 53 m_J9_equals 26 1 := ⟨RJ9, TJ9, 4, rfl, by decide, Or.inl ⟨q1069, q1071, ⟨by decide, by decide⟩, rfl⟩, q1070, q106, w_J9_equals, by decide⟩
theorem f_X12_59_1 : xFld RX12 59 1 2 := ⟨RX2, TX2, 6, "LeaningMarket$Told", rfl, by decide, by decide, in_X2, Or.inr ⟨"LeaningMarket", xnw_in q511 rfl⟩, Or.inl rfl⟩
theorem p_X12_59_1 : xFldP RX12 59 1 2 .int false := ⟨RX2, TX2, 6, "LeaningMarket$Told", tyX2, rfl, by decide, by decide, in_X2, Or.inr ⟨rfl, "LeaningMarket", xnw_in q511 rfl⟩, Or.inl rfl, tyX2_ok, nmX2, rfl, (fun h => nomatch h), rfl⟩
theorem f_X12_62_1 : xFld RX12 62 1 1 := ⟨RX2, TX2, 6, "LeaningMarket$Told", rfl, by decide, by decide, in_X2, Or.inr ⟨"LeaningMarket", xnw_in q510 rfl⟩, Or.inl rfl⟩
theorem v_X12_66_2 : xLV RX12 66 m_J2_size 2 0 := ⟨RJ2, TJ2, 3, rfl, by decide, Or.inl ⟨q1117, q648, ⟨by decide, by decide⟩, rfl⟩, q647, q99, w_J2_size, by decide⟩
theorem v_X12_72_15 : xLV RX12 72 m_X10_wrong 15 0 := ⟨RX12, TX12, 6, rfl, by decide, Or.inr (Or.inr ⟨⟨"LeaningMarket$MarketReader", "wrong", "()LLeaningMarket$Wrong;"⟩, "LeaningMarket$Reader", q1079, q1080, Or.inr (xnw_in q1081 rfl), q1082, ⟨by decide, by decide⟩, rfl⟩), q1083, q124, w_X10_wrong, by decide⟩
theorem v_X12_76_15 : xLV RX12 76 m_X12_isFull 15 1 := ⟨RX12, TX12, 6, rfl, by decide, Or.inl ⟨q1113, qs13, ⟨by decide, by decide⟩, rfl⟩, q1115, q126, w_X12_isFull, by decide⟩
theorem n_X12_80 : xNew RX12 80 14 8 [.null, .null, .null, .null, .null, .int 0, .int 0, .int 0] := ⟨RX13, TX13, tyX13, rfl, by decide, in_X13, tyX13_ok, q1118, q1086, q127, rfl, by decide +kernel⟩
theorem i_X12_82 : xLI RX12 82 m_X13_init 2 := ⟨Or.inl q1119, q1095, q1096, w_X13_init, q127, ⟨by decide, by decide⟩, rfl, rfl, by decide⟩
theorem v_X12_85_26 : xLV RX12 85 m_J9_length 26 0 := ⟨RJ9, TJ9, 4, rfl, by decide, Or.inl ⟨q1120, q331, ⟨by decide, by decide⟩, rfl⟩, q330, q106, w_J9_length, by decide⟩
theorem f_X12_88_1 : xFld RX12 88 1 0 := ⟨RX2, TX2, 6, "LeaningMarket$Told", rfl, by decide, by decide, in_X2, Or.inr ⟨"LeaningMarket", xnw_in q506 rfl⟩, Or.inl rfl⟩
theorem v_X12_92_15 : xLV RX12 92 m_X10_number 15 2 := ⟨RX12, TX12, 6, rfl, by decide, Or.inr (Or.inr ⟨⟨"LeaningMarket$MarketReader", "number", "(II)I"⟩, "LeaningMarket$Reader", q1121, q1122, Or.inr (xnw_in q1123 rfl), q1124, ⟨by decide, by decide⟩, rfl⟩), q1125, q124, w_X10_number, by decide⟩
theorem v_X12_96_15 : xLV RX12 96 m_X11_pans 15 1 := ⟨RX12, TX12, 6, rfl, by decide, Or.inr (Or.inr ⟨⟨"LeaningMarket$MarketReader", "pans", "(I)LLeaningMarket$Cry;"⟩, "LeaningMarket$PanReader", q1130, q1131, Or.inr (xnw_in q1132 rfl), q1133, ⟨by decide, by decide⟩, rfl⟩), q1134, q125, w_X11_pans, by decide⟩
theorem v_X12_100_2 : xLV RX12 100 m_J2_add 2 1 := ⟨RJ2, TJ2, 3, rfl, by decide, Or.inl ⟨q1181, q667, ⟨by decide, by decide⟩, rfl⟩, q666, q99, w_J2_add, by decide⟩
theorem p_X12_103_1 : xFldP RX12 103 1 4 .int false := ⟨RX2, TX2, 6, "LeaningMarket$Told", tyX2, rfl, by decide, by decide, in_X2, Or.inr ⟨rfl, "LeaningMarket", xnw_in q517 rfl⟩, Or.inl rfl, tyX2_ok, nmX2, rfl, (fun h => nomatch h), rfl⟩
theorem p_X12_106_1 : xFldP RX12 106 1 3 .int false := ⟨RX2, TX2, 6, "LeaningMarket$Told", tyX2, rfl, by decide, by decide, in_X2, Or.inr ⟨rfl, "LeaningMarket", xnw_in q516 rfl⟩, Or.inl rfl, tyX2_ok, nmX2, rfl, (fun h => nomatch h), rfl⟩
theorem i_X13_1 : xLI RX13 1 m_J4_init_3 4 := ⟨Or.inl q1097, q1098, q1099, w_J4_init_3, q101, ⟨by decide, by decide⟩, rfl, rfl, by decide⟩
theorem p_X13_7_14 : xFldP RX13 7 14 6 .int true := ⟨RX13, TX13, 8, "LeaningMarket$Wrong", tyX13, rfl, by decide, by decide, in_X13, Or.inl q1103, Or.inl rfl, tyX13_ok, nmX13, rfl, (fun _ => rfl), rfl⟩
theorem p_X13_13_14 : xFldP RX13 13 14 7 .int true := ⟨RX13, TX13, 8, "LeaningMarket$Wrong", tyX13, rfl, by decide, by decide, in_X13, Or.inl q1105, Or.inl rfl, tyX13_ok, nmX13, rfl, (fun _ => rfl), rfl⟩
theorem i_X14_1 : xLI RX14 1 m_J19_init 0 := ⟨Or.inl q1155, q153, q154, w_J19_init, q2560, ⟨by decide, by decide⟩, rfl, rfl, by decide⟩
theorem f_X14_7_4 : xFld RX14 7 4 0 := ⟨RX14, TX14, 4, "LeaningMarket$Cry", rfl, by decide, by decide, in_X14, Or.inl q1156, Or.inl rfl⟩
theorem p_X14_7_4 : xFldP RX14 7 4 0 .int true := ⟨RX14, TX14, 4, "LeaningMarket$Cry", tyX14, rfl, by decide, by decide, in_X14, Or.inl q1156, Or.inl rfl, tyX14_ok, nmX14, rfl, (fun _ => rfl), rfl⟩
theorem f_X14_13_4 : xFld RX14 13 4 1 := ⟨RX14, TX14, 4, "LeaningMarket$Cry", rfl, by decide, by decide, in_X14, Or.inl q1160, Or.inl rfl⟩
theorem p_X14_13_4 : xFldP RX14 13 4 1 .int true := ⟨RX14, TX14, 4, "LeaningMarket$Cry", tyX14, rfl, by decide, by decide, in_X14, Or.inl q1160, Or.inl rfl, tyX14_ok, nmX14, rfl, (fun _ => rfl), rfl⟩
theorem f_X14_16_4 : xFld RX14 16 4 2 := ⟨RX14, TX14, 4, "LeaningMarket$Cry", rfl, by decide, by decide, in_X14, Or.inl q1164, Or.inl rfl⟩
theorem p_X14_16_4 : xFldP RX14 16 4 2 .int true := ⟨RX14, TX14, 4, "LeaningMarket$Cry", tyX14, rfl, by decide, by decide, in_X14, Or.inl q1164, Or.inl rfl, tyX14_ok, nmX14, rfl, (fun _ => rfl), rfl⟩
theorem f_X14_19_4 : xFld RX14 19 4 3 := ⟨RX14, TX14, 4, "LeaningMarket$Cry", rfl, by decide, by decide, in_X14, Or.inl q1168, Or.inl rfl⟩
theorem p_X14_19_4 : xFldP RX14 19 4 3 .int true := ⟨RX14, TX14, 4, "LeaningMarket$Cry", tyX14, rfl, by decide, by decide, in_X14, Or.inl q1168, Or.inl rfl, tyX14_ok, nmX14, rfl, (fun _ => rfl), rfl⟩
theorem i_X15_3 : xLI RX15 3 m_X10_init 2 := ⟨Or.inl q1204, q914, q915, w_X10_init, q124, ⟨by decide, by decide⟩, rfl, rfl, by decide⟩
theorem v_X15_9_16 : xLV RX15 9 m_X15_sum 16 0 := ⟨RX15, TX15, 5, rfl, by decide, Or.inl ⟨q1215, qs15, ⟨by decide, by decide⟩, rfl⟩, q1217, q129, w_X15_sum, by decide⟩
theorem v_X15_15_16 : xLV RX15 15 m_X10_sign 16 0 := ⟨RX15, TX15, 5, rfl, by decide, Or.inr (Or.inr ⟨⟨"LeaningMarket$LawReader", "sign", "()I"⟩, "LeaningMarket$Reader", q1227, q1228, Or.inr (xnw_in q968 rfl), q1229, ⟨by decide, by decide⟩, rfl⟩), q970, q124, w_X10_sign, by decide⟩
theorem f_X15_19_18 : xFld RX15 19 18 2 := ⟨RX31, TX31, 8, "LeaningMarket$LawReader", rfl, by decide, by decide, in_X31, Or.inl q935, Or.inr q936⟩
theorem p_X15_19_18 : xFldP RX15 19 18 2 .int false := ⟨RX31, TX31, 8, "LeaningMarket$LawReader", tyX31, rfl, by decide, by decide, in_X31, Or.inl q935, Or.inr q936, tyX31_ok, nmX31, rfl, (fun h => nomatch h), rfl⟩
theorem f_X15_19_17 : xFld RX15 19 17 2 := ⟨RX22, TX22, 6, "LeaningMarket$LawReader", rfl, by decide, by decide, in_X22, Or.inl q935, Or.inr q936⟩
theorem p_X15_19_17 : xFldP RX15 19 17 2 .int false := ⟨RX22, TX22, 6, "LeaningMarket$LawReader", tyX22, rfl, by decide, by decide, in_X22, Or.inl q935, Or.inr q936, tyX22_ok, nmX22, rfl, (fun h => nomatch h), rfl⟩
theorem f_X15_19_15 : xFld RX15 19 15 2 := ⟨RX12, TX12, 6, "LeaningMarket$LawReader", rfl, by decide, by decide, in_X12, Or.inl q935, Or.inr q936⟩
theorem p_X15_19_15 : xFldP RX15 19 15 2 .int false := ⟨RX12, TX12, 6, "LeaningMarket$LawReader", tyX12, rfl, by decide, by decide, in_X12, Or.inl q935, Or.inr q936, tyX12_ok, nmX12, rfl, (fun h => nomatch h), rfl⟩
theorem f_X15_19_16 : xFld RX15 19 16 2 := ⟨RX15, TX15, 5, "LeaningMarket$LawReader", rfl, by decide, by decide, in_X15, Or.inl q935, Or.inr q936⟩
theorem p_X15_19_16 : xFldP RX15 19 16 2 .int false := ⟨RX15, TX15, 5, "LeaningMarket$LawReader", tyX15, rfl, by decide, by decide, in_X15, Or.inl q935, Or.inr q936, tyX15_ok, nmX15, rfl, (fun h => nomatch h), rfl⟩
theorem f_X15_23_18 : xFld RX15 23 18 1 := ⟨RX31, TX31, 8, "LeaningMarket$LawReader", rfl, by decide, by decide, in_X31, Or.inl q926, Or.inr q927⟩
theorem f_X15_23_17 : xFld RX15 23 17 1 := ⟨RX22, TX22, 6, "LeaningMarket$LawReader", rfl, by decide, by decide, in_X22, Or.inl q926, Or.inr q927⟩
theorem f_X15_23_15 : xFld RX15 23 15 1 := ⟨RX12, TX12, 6, "LeaningMarket$LawReader", rfl, by decide, by decide, in_X12, Or.inl q926, Or.inr q927⟩
theorem f_X15_23_16 : xFld RX15 23 16 1 := ⟨RX15, TX15, 5, "LeaningMarket$LawReader", rfl, by decide, by decide, in_X15, Or.inl q926, Or.inr q927⟩
theorem v_X15_26_16 : xLV RX15 26 m_X10_wrong 16 0 := ⟨RX15, TX15, 5, rfl, by decide, Or.inr (Or.inr ⟨⟨"LeaningMarket$LawReader", "wrong", "()LLeaningMarket$Wrong;"⟩, "LeaningMarket$Reader", q1287, q1288, Or.inr (xnw_in q1081 rfl), q1289, ⟨by decide, by decide⟩, rfl⟩), q1083, q124, w_X10_wrong, by decide⟩
theorem v_X15_30_16 : xLV RX15 30 m_X15_product 16 0 := ⟨RX15, TX15, 5, rfl, by decide, Or.inl ⟨q1219, qs16, ⟨by decide, by decide⟩, rfl⟩, q1221, q129, w_X15_product, by decide⟩
theorem n_X15_33 : xNew RX15 33 12 2 [.null, .null] := ⟨RX20, TX20, tyX20, rfl, by decide, in_X20, tyX20_ok, q1310, q1311, q134, rfl, by decide +kernel⟩
theorem i_X15_35 : xLI RX15 35 m_X20_init 2 := ⟨Or.inl q1312, q1313, q1314, w_X20_init, q134, ⟨by decide, by decide⟩, rfl, rfl, by decide⟩
theorem n_X15_38 : xNew RX15 38 13 2 [.null, .null] := ⟨RX21, TX21, tyX21, rfl, by decide, in_X21, tyX21_ok, q1319, q1320, q135, rfl, by decide +kernel⟩
theorem i_X15_40 : xLI RX15 40 m_X21_init 2 := ⟨Or.inl q1321, q1322, q1323, w_X21_init, q135, ⟨by decide, by decide⟩, rfl, rfl, by decide⟩
theorem v_X15_41_16 : xLV RX15 41 m_X15_unit 16 0 := ⟨RX15, TX15, 5, rfl, by decide, Or.inl ⟨q1223, qs17, ⟨by decide, by decide⟩, rfl⟩, q1225, q129, w_X15_unit, by decide⟩
theorem n_X15_44 : xNew RX15 44 10 2 [.null, .null] := ⟨RX18, TX18, tyX18, rfl, by decide, in_X18, tyX18_ok, q1290, q1291, q132, rfl, by decide +kernel⟩
theorem i_X15_46 : xLI RX15 46 m_X18_init 2 := ⟨Or.inl q1292, q1293, q1294, w_X18_init, q132, ⟨by decide, by decide⟩, rfl, rfl, by decide⟩
theorem n_X15_47 : xNew RX15 47 5 2 [.null, .null] := ⟨RX5, TX5, tyX5, rfl, by decide, in_X5, tyX5_ok, q1299, q538, q118, rfl, by decide +kernel⟩
theorem i_X15_49 : xLI RX15 49 m_X5_init 2 := ⟨Or.inl q1300, q563, q564, w_X5_init, q118, ⟨by decide, by decide⟩, rfl, rfl, by decide⟩
theorem n_X15_50 : xNew RX15 50 11 2 [.null, .null] := ⟨RX19, TX19, tyX19, rfl, by decide, in_X19, tyX19_ok, q1301, q1302, q133, rfl, by decide +kernel⟩
theorem i_X15_52 : xLI RX15 52 m_X19_init 2 := ⟨Or.inl q1303, q1304, q1305, w_X19_init, q133, ⟨by decide, by decide⟩, rfl, rfl, by decide⟩
theorem v_X15_53_16 : xLV RX15 53 m_X10_opens 16 1 := ⟨RX15, TX15, 5, rfl, by decide, Or.inr (Or.inr ⟨⟨"LeaningMarket$LawReader", "opens", "(I)V"⟩, "LeaningMarket$Reader", q1230, q1231, Or.inr (xnw_in q1232 rfl), q1233, ⟨by decide, by decide⟩, rfl⟩), q1234, q124, w_X10_opens, by decide⟩
theorem v_X15_57_16 : xLV RX15 57 m_X10_need 16 1 := ⟨RX15, TX15, 5, rfl, by decide, Or.inr (Or.inr ⟨⟨"LeaningMarket$LawReader", "need", "(I)V"⟩, "LeaningMarket$Reader", q1236, q1237, Or.inr (xnw_in q1184 rfl), q1238, ⟨by decide, by decide⟩, rfl⟩), q1186, q124, w_X10_need, by decide⟩
theorem f_X15_60_18 : xFld RX15 60 18 4 := ⟨RX31, TX31, 8, "LeaningMarket$LawReader", rfl, by decide, by decide, in_X31, Or.inl q944, Or.inr q945⟩
theorem p_X15_60_18 : xFldP RX15 60 18 4 .int false := ⟨RX31, TX31, 8, "LeaningMarket$LawReader", tyX31, rfl, by decide, by decide, in_X31, Or.inl q944, Or.inr q945, tyX31_ok, nmX31, rfl, (fun h => nomatch h), rfl⟩
theorem f_X15_60_17 : xFld RX15 60 17 4 := ⟨RX22, TX22, 6, "LeaningMarket$LawReader", rfl, by decide, by decide, in_X22, Or.inl q944, Or.inr q945⟩
theorem p_X15_60_17 : xFldP RX15 60 17 4 .int false := ⟨RX22, TX22, 6, "LeaningMarket$LawReader", tyX22, rfl, by decide, by decide, in_X22, Or.inl q944, Or.inr q945, tyX22_ok, nmX22, rfl, (fun h => nomatch h), rfl⟩
theorem f_X15_60_15 : xFld RX15 60 15 4 := ⟨RX12, TX12, 6, "LeaningMarket$LawReader", rfl, by decide, by decide, in_X12, Or.inl q944, Or.inr q945⟩
theorem p_X15_60_15 : xFldP RX15 60 15 4 .int false := ⟨RX12, TX12, 6, "LeaningMarket$LawReader", tyX12, rfl, by decide, by decide, in_X12, Or.inl q944, Or.inr q945, tyX12_ok, nmX12, rfl, (fun h => nomatch h), rfl⟩
theorem f_X15_60_16 : xFld RX15 60 16 4 := ⟨RX15, TX15, 5, "LeaningMarket$LawReader", rfl, by decide, by decide, in_X15, Or.inl q944, Or.inr q945⟩
theorem p_X15_60_16 : xFldP RX15 60 16 4 .int false := ⟨RX15, TX15, 5, "LeaningMarket$LawReader", tyX15, rfl, by decide, by decide, in_X15, Or.inl q944, Or.inr q945, tyX15_ok, nmX15, rfl, (fun h => nomatch h), rfl⟩
theorem n_X15_63 : xNew RX15 63 7 1 [.int 0] := ⟨RX7, TX7, tyX7, rfl, by decide, in_X7, tyX7_ok, q1239, q553, q120, rfl, by decide +kernel⟩
theorem v_X15_65_16 : xLV RX15 65 m_X10_number 16 2 := ⟨RX15, TX15, 5, rfl, by decide, Or.inr (Or.inr ⟨⟨"LeaningMarket$LawReader", "number", "(II)I"⟩, "LeaningMarket$Reader", q1240, q1241, Or.inr (xnw_in q1123 rfl), q1242, ⟨by decide, by decide⟩, rfl⟩), q1125, q124, w_X10_number, by decide⟩
theorem i_X15_69 : xLI RX15 69 m_X7_init 1 := ⟨Or.inl q1243, q555, q556, w_X7_init, q120, ⟨by decide, by decide⟩, rfl, rfl, by decide⟩
theorem v_X15_71_16 : xLV RX15 71 m_X10_word 16 0 := ⟨RX15, TX15, 5, rfl, by decide, Or.inr (Or.inr ⟨⟨"LeaningMarket$LawReader", "word", "()Ljava/lang/String;"⟩, "LeaningMarket$Reader", q1244, q1245, Or.inr (xnw_in q974 rfl), q1246, ⟨by decide, by decide⟩, rfl⟩), q976, q124, w_X10_word, by decide⟩
theorem v_X15_75_26 : xLV RX15 75 m_J9_hashCode 26 0 := ⟨RJ9, TJ9, 4, rfl, by decide, Or.inl ⟨q1247, q1009, ⟨by decide, by decide⟩, rfl⟩, q1008, q106, w_J9_hashCode, by decide⟩
theorem v_X15_82_26 : xLV RX15 82 m_J9_equals 26 1 := ⟨RJ9, TJ9, 4, rfl, by decide, Or.inl ⟨q1249, q1071, ⟨by decide, by decide⟩, rfl⟩, q1070, q106, w_J9_equals, by decide⟩
theorem v_X15_102_16 : xLV RX15 102 m_X15_fact 16 2 := ⟨RX15, TX15, 5, rfl, by decide, Or.inl ⟨q1258, qs18, ⟨by decide, by decide⟩, rfl⟩, q1260, q129, w_X15_fact, by decide⟩
theorem v_X15_106_16 : xLV RX15 106 m_X15_two 16 1 := ⟨RX15, TX15, 5, rfl, by decide, Or.inl ⟨q1265, qs19, ⟨by decide, by decide⟩, rfl⟩, q1267, q129, w_X15_two, by decide⟩
theorem v_X15_110_26 : xLV RX15 110 m_J9_length 26 0 := ⟨RJ9, TJ9, 4, rfl, by decide, Or.inl ⟨q1262, q331, ⟨by decide, by decide⟩, rfl⟩, q330, q106, w_J9_length, by decide⟩
theorem n_X15_113 : xNew RX15 113 6 1 [.int 0] := ⟨RX6, TX6, tyX6, rfl, by decide, in_X6, tyX6_ok, q1263, q540, q119, rfl, by decide +kernel⟩
theorem i_X15_115 : xLI RX15 115 m_X6_init 1 := ⟨Or.inl q1264, q542, q543, w_X6_init, q119, ⟨by decide, by decide⟩, rfl, rfl, by decide⟩
theorem n_X15_116 : xNew RX15 116 8 2 [.null, .null] := ⟨RX16, TX16, tyX16, rfl, by decide, in_X16, tyX16_ok, q1269, q1270, q130, rfl, by decide +kernel⟩
theorem i_X15_118 : xLI RX15 118 m_X16_init 2 := ⟨Or.inl q1271, q1272, q1273, w_X16_init, q130, ⟨by decide, by decide⟩, rfl, rfl, by decide⟩
theorem n_X15_119 : xNew RX15 119 9 2 [.null, .null] := ⟨RX17, TX17, tyX17, rfl, by decide, in_X17, tyX17_ok, q1278, q1279, q131, rfl, by decide +kernel⟩
theorem i_X15_121 : xLI RX15 121 m_X17_init 2 := ⟨Or.inl q1280, q1281, q1282, w_X17_init, q131, ⟨by decide, by decide⟩, rfl, rfl, by decide⟩
theorem i_X16_1 : xLI RX16 1 m_X4_init 2 := ⟨Or.inl q1274, q566, q567, w_X4_init, q117, ⟨by decide, by decide⟩, rfl, rfl, by decide⟩
theorem s_X16_7 : xLS RX16 7 m_J12_min 2 := ⟨Or.inl q1546, q293, q109, w_J12_min, ⟨by decide, by decide⟩, rfl, by decide⟩
theorem i_X17_1 : xLI RX17 1 m_X4_init 2 := ⟨Or.inl q1283, q566, q567, w_X4_init, q117, ⟨by decide, by decide⟩, rfl, rfl, by decide⟩
theorem s_X17_7 : xLS RX17 7 m_J12_max 2 := ⟨Or.inl q1556, q275, q109, w_J12_max, ⟨by decide, by decide⟩, rfl, by decide⟩
theorem i_X18_1 : xLI RX18 1 m_X4_init 2 := ⟨Or.inl q1295, q566, q567, w_X4_init, q117, ⟨by decide, by decide⟩, rfl, rfl, by decide⟩
theorem i_X19_1 : xLI RX19 1 m_X4_init 2 := ⟨Or.inl q1306, q566, q567, w_X4_init, q117, ⟨by decide, by decide⟩, rfl, rfl, by decide⟩
theorem i_X2_3 : xLI RX2 3 m_J19_init 0 := ⟨Or.inl q160, q153, q154, w_J19_init, q2560, ⟨by decide, by decide⟩, rfl, rfl, by decide⟩
theorem p_X2_9_1 : xFldP RX2 9 1 0 (.array .int) true := ⟨RX2, TX2, 6, "LeaningMarket$Told", tyX2, rfl, by decide, by decide, in_X2, Or.inl q504, Or.inl rfl, tyX2_ok, nmX2, rfl, (fun _ => rfl), rfl⟩
theorem n_X2_15 : xNew RX2 15 2 3 [.int 0, .null, .int 0] := ⟨RJ2, TJ2, tyJ2, rfl, by decide, in_J2, tyJ2_ok, q161, q162, q99, rfl, by decide +kernel⟩
theorem i_X2_17 : xLI RX2 17 m_J2_init 1 := ⟨Or.inl q163, q164, q165, w_J2_init, q99, ⟨by decide, by decide⟩, rfl, rfl, by decide⟩
theorem p_X2_20_1 : xFldP RX2 20 1 1 (.object "java/util/ArrayList") true := ⟨RX2, TX2, 6, "LeaningMarket$Told", tyX2, rfl, by decide, by decide, in_X2, Or.inl q508, Or.inl rfl, tyX2_ok, nmX2, rfl, (fun _ => rfl), rfl⟩
theorem p_X2_24_1 : xFldP RX2 24 1 3 .int false := ⟨RX2, TX2, 6, "LeaningMarket$Told", tyX2, rfl, by decide, by decide, in_X2, Or.inl q514, Or.inl rfl, tyX2_ok, nmX2, rfl, (fun h => nomatch h), rfl⟩
theorem i_X20_1 : xLI RX20 1 m_X4_init 2 := ⟨Or.inl q1315, q566, q567, w_X4_init, q117, ⟨by decide, by decide⟩, rfl, rfl, by decide⟩
theorem i_X21_1 : xLI RX21 1 m_X4_init 2 := ⟨Or.inl q1324, q566, q567, w_X4_init, q117, ⟨by decide, by decide⟩, rfl, rfl, by decide⟩
theorem i_X22_3 : xLI RX22 3 m_X11_init 2 := ⟨Or.inl q1340, q911, q912, w_X11_init, q125, ⟨by decide, by decide⟩, rfl, rfl, by decide⟩
theorem f_X22_9_17 : xFld RX22 9 17 5 := ⟨RX22, TX22, 6, "LeaningMarket$WorkReader", rfl, by decide, by decide, in_X22, Or.inl q1341, Or.inl rfl⟩
theorem p_X22_9_17 : xFldP RX22 9 17 5 .int true := ⟨RX22, TX22, 6, "LeaningMarket$WorkReader", tyX22, rfl, by decide, by decide, in_X22, Or.inl q1341, Or.inl rfl, tyX22_ok, nmX22, rfl, (fun _ => rfl), rfl⟩
theorem n_X22_15 : xNew RX22 15 2 3 [.int 0, .null, .int 0] := ⟨RJ2, TJ2, tyJ2, rfl, by decide, in_J2, tyJ2_ok, q1354, q162, q99, rfl, by decide +kernel⟩
theorem i_X22_17 : xLI RX22 17 m_J2_init 1 := ⟨Or.inl q1355, q164, q165, w_J2_init, q99, ⟨by decide, by decide⟩, rfl, rfl, by decide⟩
theorem v_X22_20_17 : xLV RX22 20 m_X10_sign 17 0 := ⟨RX22, TX22, 6, rfl, by decide, Or.inr (Or.inr ⟨⟨"LeaningMarket$WorkReader", "sign", "()I"⟩, "LeaningMarket$Reader", q1356, q1357, Or.inr (xnw_in q968 rfl), q1358, ⟨by decide, by decide⟩, rfl⟩), q970, q124, w_X10_sign, by decide⟩
theorem f_X22_24_18 : xFld RX22 24 18 2 := ⟨RX31, TX31, 8, "LeaningMarket$WorkReader", rfl, by decide, by decide, in_X31, Or.inl q937, Or.inr q938⟩
theorem p_X22_24_18 : xFldP RX22 24 18 2 .int false := ⟨RX31, TX31, 8, "LeaningMarket$WorkReader", tyX31, rfl, by decide, by decide, in_X31, Or.inl q937, Or.inr q938, tyX31_ok, nmX31, rfl, (fun h => nomatch h), rfl⟩
theorem f_X22_24_17 : xFld RX22 24 17 2 := ⟨RX22, TX22, 6, "LeaningMarket$WorkReader", rfl, by decide, by decide, in_X22, Or.inl q937, Or.inr q938⟩
theorem p_X22_24_17 : xFldP RX22 24 17 2 .int false := ⟨RX22, TX22, 6, "LeaningMarket$WorkReader", tyX22, rfl, by decide, by decide, in_X22, Or.inl q937, Or.inr q938, tyX22_ok, nmX22, rfl, (fun h => nomatch h), rfl⟩
theorem f_X22_24_15 : xFld RX22 24 15 2 := ⟨RX12, TX12, 6, "LeaningMarket$WorkReader", rfl, by decide, by decide, in_X12, Or.inl q937, Or.inr q938⟩
theorem p_X22_24_15 : xFldP RX22 24 15 2 .int false := ⟨RX12, TX12, 6, "LeaningMarket$WorkReader", tyX12, rfl, by decide, by decide, in_X12, Or.inl q937, Or.inr q938, tyX12_ok, nmX12, rfl, (fun h => nomatch h), rfl⟩
theorem f_X22_24_16 : xFld RX22 24 16 2 := ⟨RX15, TX15, 5, "LeaningMarket$WorkReader", rfl, by decide, by decide, in_X15, Or.inl q937, Or.inr q938⟩
theorem p_X22_24_16 : xFldP RX22 24 16 2 .int false := ⟨RX15, TX15, 5, "LeaningMarket$WorkReader", tyX15, rfl, by decide, by decide, in_X15, Or.inl q937, Or.inr q938, tyX15_ok, nmX15, rfl, (fun h => nomatch h), rfl⟩
theorem f_X22_27_18 : xFld RX22 27 18 1 := ⟨RX31, TX31, 8, "LeaningMarket$WorkReader", rfl, by decide, by decide, in_X31, Or.inl q928, Or.inr q929⟩
theorem f_X22_27_17 : xFld RX22 27 17 1 := ⟨RX22, TX22, 6, "LeaningMarket$WorkReader", rfl, by decide, by decide, in_X22, Or.inl q928, Or.inr q929⟩
theorem f_X22_27_15 : xFld RX22 27 15 1 := ⟨RX12, TX12, 6, "LeaningMarket$WorkReader", rfl, by decide, by decide, in_X12, Or.inl q928, Or.inr q929⟩
theorem f_X22_27_16 : xFld RX22 27 16 1 := ⟨RX15, TX15, 5, "LeaningMarket$WorkReader", rfl, by decide, by decide, in_X15, Or.inl q928, Or.inr q929⟩
theorem v_X22_30_17 : xLV RX22 30 m_X22_step 17 0 := ⟨RX22, TX22, 6, rfl, by decide, Or.inl ⟨q1359, qs20, ⟨by decide, by decide⟩, rfl⟩, q1361, q136, w_X22_step, by decide⟩
theorem v_X22_34_2 : xLV RX22 34 m_J2_add 2 1 := ⟨RJ2, TJ2, 3, rfl, by decide, Or.inl ⟨q1464, q667, ⟨by decide, by decide⟩, rfl⟩, q666, q99, w_J2_add, by decide⟩
theorem v_X22_38_17 : xLV RX22 38 m_X10_word 17 0 := ⟨RX22, TX22, 6, rfl, by decide, Or.inr (Or.inr ⟨⟨"LeaningMarket$WorkReader", "word", "()Ljava/lang/String;"⟩, "LeaningMarket$Reader", q1363, q1364, Or.inr (xnw_in q974 rfl), q1365, ⟨by decide, by decide⟩, rfl⟩), q976, q124, w_X10_word, by decide⟩
theorem v_X22_42_26 : xLV RX22 42 m_J9_hashCode 26 0 := ⟨RJ9, TJ9, 4, rfl, by decide, Or.inl ⟨q1366, q1009, ⟨by decide, by decide⟩, rfl⟩, q1008, q106, w_J9_hashCode, by decide⟩
theorem v_X22_49_26 : xLV RX22 49 m_J9_equals 26 1 := ⟨RJ9, TJ9, 4, rfl, by decide, Or.inl ⟨q1368, q1071, ⟨by decide, by decide⟩, rfl⟩, q1070, q106, w_J9_equals, by decide⟩
theorem v_X22_62_26 : xLV RX22 62 m_J9_length 26 0 := ⟨RJ9, TJ9, 4, rfl, by decide, Or.inl ⟨q1374, q331, ⟨by decide, by decide⟩, rfl⟩, q330, q106, w_J9_length, by decide⟩
theorem v_X22_65_17 : xLV RX22 65 m_X22_act 17 1 := ⟨RX22, TX22, 6, rfl, by decide, Or.inl ⟨q1375, qs21, ⟨by decide, by decide⟩, rfl⟩, q1377, q136, w_X22_act, by decide⟩
theorem v_X22_69_17 : xLV RX22 69 m_X22_again 17 0 := ⟨RX22, TX22, 6, rfl, by decide, Or.inl ⟨q1438, qs22, ⟨by decide, by decide⟩, rfl⟩, q1440, q136, w_X22_again, by decide⟩
theorem v_X22_71_17 : xLV RX22 71 m_X10_wrong 17 0 := ⟨RX22, TX22, 6, rfl, by decide, Or.inr (Or.inr ⟨⟨"LeaningMarket$WorkReader", "wrong", "()LLeaningMarket$Wrong;"⟩, "LeaningMarket$Reader", q1465, q1466, Or.inr (xnw_in q1081 rfl), q1467, ⟨by decide, by decide⟩, rfl⟩), q1083, q124, w_X10_wrong, by decide⟩
theorem v_X22_75_17 : xLV RX22 75 m_X10_need 17 1 := ⟨RX22, TX22, 6, rfl, by decide, Or.inr (Or.inr ⟨⟨"LeaningMarket$WorkReader", "need", "(I)V"⟩, "LeaningMarket$Reader", q1461, q1462, Or.inr (xnw_in q1184 rfl), q1463, ⟨by decide, by decide⟩, rfl⟩), q1186, q124, w_X10_need, by decide⟩
theorem n_X22_78 : xNew RX22 78 19 1 [.null] := ⟨RX25, TX25, tyX25, rfl, by decide, in_X25, tyX25_ok, q1379, q1380, q139, rfl, by decide +kernel⟩
theorem v_X22_80_17 : xLV RX22 80 m_X11_pans 17 1 := ⟨RX22, TX22, 6, rfl, by decide, Or.inr (Or.inr ⟨⟨"LeaningMarket$WorkReader", "pans", "(I)LLeaningMarket$Cry;"⟩, "LeaningMarket$PanReader", q1381, q1382, Or.inr (xnw_in q1132 rfl), q1383, ⟨by decide, by decide⟩, rfl⟩), q1134, q125, w_X11_pans, by decide⟩
theorem i_X22_84 : xLI RX22 84 m_X25_init 1 := ⟨Or.inl q1384, q1385, q1386, w_X25_init, q139, ⟨by decide, by decide⟩, rfl, rfl, by decide⟩
theorem n_X22_87 : xNew RX22 87 20 1 [.int 0] := ⟨RX26, TX26, tyX26, rfl, by decide, in_X26, tyX26_ok, q1398, q1399, q140, rfl, by decide +kernel⟩
theorem v_X22_89_17 : xLV RX22 89 m_X10_number 17 2 := ⟨RX22, TX22, 6, rfl, by decide, Or.inr (Or.inr ⟨⟨"LeaningMarket$WorkReader", "number", "(II)I"⟩, "LeaningMarket$Reader", q1400, q1401, Or.inr (xnw_in q1123 rfl), q1402, ⟨by decide, by decide⟩, rfl⟩), q1125, q124, w_X10_number, by decide⟩
theorem i_X22_93 : xLI RX22 93 m_X26_init 1 := ⟨Or.inl q1403, q1404, q1405, w_X26_init, q140, ⟨by decide, by decide⟩, rfl, rfl, by decide⟩
theorem n_X22_94 : xNew RX22 94 21 2 [.int 0, .int 0] := ⟨RX27, TX27, tyX27, rfl, by decide, in_X27, tyX27_ok, q1411, q1412, q141, rfl, by decide +kernel⟩
theorem i_X22_96 : xLI RX22 96 m_X27_init 2 := ⟨Or.inl q1413, q1414, q1415, w_X27_init, q141, ⟨by decide, by decide⟩, rfl, rfl, by decide⟩
theorem n_X22_99 : xNew RX22 99 22 0 [] := ⟨RX28, xT0, (fun _ => .int), rfl, by decide, (fun w h => nomatch h), (fun k h => nomatch h), q1424, q1425, q142, rfl, by decide +kernel⟩
theorem i_X22_101 : xLI RX22 101 m_X28_init 0 := ⟨Or.inr ⟨"LeaningMarket", xnw_in q1426 rfl⟩, q1427, q1428, w_X28_init, q142, ⟨by decide, by decide⟩, rfl, rfl, by decide⟩
theorem n_X22_104 : xNew RX22 104 23 0 [] := ⟨RX29, xT0, (fun _ => .int), rfl, by decide, (fun w h => nomatch h), (fun k h => nomatch h), q1431, q1432, q143, rfl, by decide +kernel⟩
theorem i_X22_106 : xLI RX22 106 m_X29_init 0 := ⟨Or.inr ⟨"LeaningMarket", xnw_in q1433 rfl⟩, q1434, q1435, w_X29_init, q143, ⟨by decide, by decide⟩, rfl, rfl, by decide⟩
theorem v_X22_107_17 : xLV RX22 107 m_X10_opens 17 1 := ⟨RX22, TX22, 6, rfl, by decide, Or.inr (Or.inr ⟨⟨"LeaningMarket$WorkReader", "opens", "(I)V"⟩, "LeaningMarket$Reader", q1442, q1443, Or.inr (xnw_in q1232 rfl), q1444, ⟨by decide, by decide⟩, rfl⟩), q1234, q124, w_X10_opens, by decide⟩
theorem n_X22_110 : xNew RX22 110 24 2 [.int 0, .null] := ⟨RX30, TX30, tyX30, rfl, by decide, in_X30, tyX30_ok, q1445, q1446, q144, rfl, by decide +kernel⟩
theorem i_X22_112 : xLI RX22 112 m_X30_init 1 := ⟨Or.inl q1447, q1448, q1449, w_X30_init, q144, ⟨by decide, by decide⟩, rfl, rfl, by decide⟩
theorem f_X22_113_24 : xFld RX22 113 24 1 := ⟨RX30, TX30, 2, "LeaningMarket$Again", rfl, by decide, by decide, in_X30, Or.inr ⟨"LeaningMarket", xnw_in q1455 rfl⟩, Or.inl rfl⟩
theorem f_X22_117_18 : xFld RX22 117 18 4 := ⟨RX31, TX31, 8, "LeaningMarket$WorkReader", rfl, by decide, by decide, in_X31, Or.inl q946, Or.inr q947⟩
theorem p_X22_117_18 : xFldP RX22 117 18 4 .int false := ⟨RX31, TX31, 8, "LeaningMarket$WorkReader", tyX31, rfl, by decide, by decide, in_X31, Or.inl q946, Or.inr q947, tyX31_ok, nmX31, rfl, (fun h => nomatch h), rfl⟩
theorem f_X22_117_17 : xFld RX22 117 17 4 := ⟨RX22, TX22, 6, "LeaningMarket$WorkReader", rfl, by decide, by decide, in_X22, Or.inl q946, Or.inr q947⟩
theorem p_X22_117_17 : xFldP RX22 117 17 4 .int false := ⟨RX22, TX22, 6, "LeaningMarket$WorkReader", tyX22, rfl, by decide, by decide, in_X22, Or.inl q946, Or.inr q947, tyX22_ok, nmX22, rfl, (fun h => nomatch h), rfl⟩
theorem f_X22_117_15 : xFld RX22 117 15 4 := ⟨RX12, TX12, 6, "LeaningMarket$WorkReader", rfl, by decide, by decide, in_X12, Or.inl q946, Or.inr q947⟩
theorem p_X22_117_15 : xFldP RX22 117 15 4 .int false := ⟨RX12, TX12, 6, "LeaningMarket$WorkReader", tyX12, rfl, by decide, by decide, in_X12, Or.inl q946, Or.inr q947, tyX12_ok, nmX12, rfl, (fun h => nomatch h), rfl⟩
theorem f_X22_117_16 : xFld RX22 117 16 4 := ⟨RX15, TX15, 5, "LeaningMarket$WorkReader", rfl, by decide, by decide, in_X15, Or.inl q946, Or.inr q947⟩
theorem p_X22_117_16 : xFldP RX22 117 16 4 .int false := ⟨RX15, TX15, 5, "LeaningMarket$WorkReader", tyX15, rfl, by decide, by decide, in_X15, Or.inl q946, Or.inr q947, tyX15_ok, nmX15, rfl, (fun h => nomatch h), rfl⟩
theorem i_X23_3 : xLI RX23 3 m_J19_init 0 := ⟨Or.inl q1393, q153, q154, w_J19_init, q2560, ⟨by decide, by decide⟩, rfl, rfl, by decide⟩
theorem f_X23_9_3 : xFld RX23 9 3 7 := ⟨RX8, TX8, 11, "LeaningMarket$Market", rfl, by decide, by decide, in_X8, Or.inr ⟨"LeaningMarket", xnw_in q598 rfl⟩, Or.inl rfl⟩
theorem p_X23_9_3 : xFldP RX23 9 3 7 .int false := ⟨RX8, TX8, 11, "LeaningMarket$Market", tyX8, rfl, by decide, by decide, in_X8, Or.inr ⟨rfl, "LeaningMarket", xnw_in q598 rfl⟩, Or.inl rfl, tyX8_ok, nmX8, rfl, (fun h => nomatch h), rfl⟩
theorem i_X24_1 : xLI RX24 1 m_X23_init 0 := ⟨Or.inr ⟨"LeaningMarket", xnw_in q1390 rfl⟩, q1391, q1392, w_X23_init, q137, ⟨by decide, by decide⟩, rfl, rfl, by decide⟩
theorem v_X24_13_19 : xLV RX24 13 m_X25_isDone 19 1 := ⟨RX25, TX25, 1, rfl, by decide, Or.inr (Or.inr ⟨⟨"LeaningMarket$Act", "isDone", "(LLeaningMarket$Market;)Z"⟩, "LeaningMarket$Act", q1487, q1489, Or.inr (xnw_in q1488 rfl), q1597, ⟨by decide, by decide⟩, rfl⟩), q1598, q139, w_X25_isDone, by decide⟩
theorem v_X24_13_20 : xLV RX24 13 m_X26_isDone 20 1 := ⟨RX26, TX26, 1, rfl, by decide, Or.inr (Or.inr ⟨⟨"LeaningMarket$Act", "isDone", "(LLeaningMarket$Market;)Z"⟩, "LeaningMarket$Act", q1487, q1489, Or.inr (xnw_in q1488 rfl), q1574, ⟨by decide, by decide⟩, rfl⟩), q1575, q140, w_X26_isDone, by decide⟩
theorem v_X24_13_21 : xLV RX24 13 m_X27_isDone 21 1 := ⟨RX27, TX27, 2, rfl, by decide, Or.inr (Or.inr ⟨⟨"LeaningMarket$Act", "isDone", "(LLeaningMarket$Market;)Z"⟩, "LeaningMarket$Act", q1487, q1489, Or.inr (xnw_in q1488 rfl), q1490, ⟨by decide, by decide⟩, rfl⟩), q1491, q141, w_X27_isDone, by decide⟩
theorem v_X24_13_22 : xLV RX24 13 m_X28_isDone 22 1 := ⟨RX28, xT0, 0, rfl, by decide, Or.inr (Or.inr ⟨⟨"LeaningMarket$Act", "isDone", "(LLeaningMarket$Market;)Z"⟩, "LeaningMarket$Act", q1487, q1489, Or.inr (xnw_in q1488 rfl), q1590, ⟨by decide, by decide⟩, rfl⟩), q1591, q142, w_X28_isDone, by decide⟩
theorem v_X24_13_23 : xLV RX24 13 m_X29_isDone 23 1 := ⟨RX29, xT0, 0, rfl, by decide, Or.inr (Or.inr ⟨⟨"LeaningMarket$Act", "isDone", "(LLeaningMarket$Market;)Z"⟩, "LeaningMarket$Act", q1487, q1489, Or.inr (xnw_in q1488 rfl), q1498, ⟨by decide, by decide⟩, rfl⟩), q1499, q143, w_X29_isDone, by decide⟩
theorem f_X24_16_3 : xFld RX24 16 3 8 := ⟨RX8, TX8, 11, "LeaningMarket$Market", rfl, by decide, by decide, in_X8, Or.inr ⟨"LeaningMarket", xnw_in q600 rfl⟩, Or.inl rfl⟩
theorem p_X24_16_3 : xFldP RX24 16 3 8 .int false := ⟨RX8, TX8, 11, "LeaningMarket$Market", tyX8, rfl, by decide, by decide, in_X8, Or.inr ⟨rfl, "LeaningMarket", xnw_in q600 rfl⟩, Or.inl rfl, tyX8_ok, nmX8, rfl, (fun h => nomatch h), rfl⟩
theorem f_X24_22_3 : xFld RX24 22 3 9 := ⟨RX8, TX8, 11, "LeaningMarket$Market", rfl, by decide, by decide, in_X8, Or.inr ⟨"LeaningMarket", xnw_in q602 rfl⟩, Or.inl rfl⟩
theorem p_X24_22_3 : xFldP RX24 22 3 9 .int false := ⟨RX8, TX8, 11, "LeaningMarket$Market", tyX8, rfl, by decide, by decide, in_X8, Or.inr ⟨rfl, "LeaningMarket", xnw_in q602 rfl⟩, Or.inl rfl, tyX8_ok, nmX8, rfl, (fun h => nomatch h), rfl⟩
theorem i_X25_1 : xLI RX25 1 m_X24_init 0 := ⟨Or.inr ⟨"LeaningMarket", xnw_in q1387 rfl⟩, q1388, q1389, w_X24_init, q138, ⟨by decide, by decide⟩, rfl, rfl, by decide⟩
theorem f_X25_7_19 : xFld RX25 7 19 0 := ⟨RX25, TX25, 1, "LeaningMarket$Weighs", rfl, by decide, by decide, in_X25, Or.inl q1394, Or.inl rfl⟩
theorem p_X25_7_19 : xFldP RX25 7 19 0 (.object "LeaningMarket$Cry") true := ⟨RX25, TX25, 1, "LeaningMarket$Weighs", tyX25, rfl, by decide, by decide, in_X25, Or.inl q1394, Or.inl rfl, tyX25_ok, nmX25, rfl, (fun _ => rfl), rfl⟩
theorem f_X25_13_4 : xFld RX25 13 4 0 := ⟨RX14, TX14, 4, "LeaningMarket$Cry", rfl, by decide, by decide, in_X14, Or.inr ⟨"LeaningMarket", xnw_in q1157 rfl⟩, Or.inl rfl⟩
theorem f_X25_19_4 : xFld RX25 19 4 1 := ⟨RX14, TX14, 4, "LeaningMarket$Cry", rfl, by decide, by decide, in_X14, Or.inr ⟨"LeaningMarket", xnw_in q1161 rfl⟩, Or.inl rfl⟩
theorem f_X25_22_4 : xFld RX25 22 4 2 := ⟨RX14, TX14, 4, "LeaningMarket$Cry", rfl, by decide, by decide, in_X14, Or.inr ⟨"LeaningMarket", xnw_in q1165 rfl⟩, Or.inl rfl⟩
theorem f_X25_25_4 : xFld RX25 25 4 3 := ⟨RX14, TX14, 4, "LeaningMarket$Cry", rfl, by decide, by decide, in_X14, Or.inr ⟨"LeaningMarket", xnw_in q1169 rfl⟩, Or.inl rfl⟩
theorem v_X25_28_3 : xLV RX25 28 m_X8_weighs 3 4 := ⟨RX8, TX8, 11, rfl, by decide, Or.inl ⟨q1600, q1602, ⟨by decide, by decide⟩, rfl⟩, q1601, q121, w_X8_weighs, by decide⟩
theorem i_X26_1 : xLI RX26 1 m_X24_init 0 := ⟨Or.inr ⟨"LeaningMarket", xnw_in q1406 rfl⟩, q1388, q1389, w_X24_init, q138, ⟨by decide, by decide⟩, rfl, rfl, by decide⟩
theorem f_X26_7_20 : xFld RX26 7 20 0 := ⟨RX26, TX26, 1, "LeaningMarket$Tips", rfl, by decide, by decide, in_X26, Or.inl q1407, Or.inl rfl⟩
theorem p_X26_7_20 : xFldP RX26 7 20 0 .int true := ⟨RX26, TX26, 1, "LeaningMarket$Tips", tyX26, rfl, by decide, by decide, in_X26, Or.inl q1407, Or.inl rfl, tyX26_ok, nmX26, rfl, (fun _ => rfl), rfl⟩
theorem v_X26_13_3 : xLV RX26 13 m_X8_tips 3 1 := ⟨RX8, TX8, 11, rfl, by decide, Or.inl ⟨q1577, q1579, ⟨by decide, by decide⟩, rfl⟩, q1578, q121, w_X8_tips, by decide⟩
theorem i_X27_1 : xLI RX27 1 m_X24_init 0 := ⟨Or.inr ⟨"LeaningMarket", xnw_in q1416 rfl⟩, q1388, q1389, w_X24_init, q138, ⟨by decide, by decide⟩, rfl, rfl, by decide⟩
theorem f_X27_7_21 : xFld RX27 7 21 0 := ⟨RX27, TX27, 2, "LeaningMarket$Feeds", rfl, by decide, by decide, in_X27, Or.inl q1417, Or.inl rfl⟩
theorem p_X27_7_21 : xFldP RX27 7 21 0 .int true := ⟨RX27, TX27, 2, "LeaningMarket$Feeds", tyX27, rfl, by decide, by decide, in_X27, Or.inl q1417, Or.inl rfl, tyX27_ok, nmX27, rfl, (fun _ => rfl), rfl⟩
theorem f_X27_13_21 : xFld RX27 13 21 1 := ⟨RX27, TX27, 2, "LeaningMarket$Feeds", rfl, by decide, by decide, in_X27, Or.inl q1418, Or.inl rfl⟩
theorem p_X27_13_21 : xFldP RX27 13 21 1 .int true := ⟨RX27, TX27, 2, "LeaningMarket$Feeds", tyX27, rfl, by decide, by decide, in_X27, Or.inl q1418, Or.inl rfl, tyX27_ok, nmX27, rfl, (fun _ => rfl), rfl⟩
theorem v_X27_16_3 : xLV RX27 16 m_X8_feeds 3 2 := ⟨RX8, TX8, 11, rfl, by decide, Or.inl ⟨q1493, q1495, ⟨by decide, by decide⟩, rfl⟩, q1494, q121, w_X8_feeds, by decide⟩
theorem i_X28_1 : xLI RX28 1 m_X24_init 0 := ⟨Or.inr ⟨"LeaningMarket", xnw_in q1429 rfl⟩, q1388, q1389, w_X24_init, q138, ⟨by decide, by decide⟩, rfl, rfl, by decide⟩
theorem v_X28_7_3 : xLV RX28 7 m_X8_turns 3 0 := ⟨RX8, TX8, 11, rfl, by decide, Or.inl ⟨q1593, q1595, ⟨by decide, by decide⟩, rfl⟩, q1594, q121, w_X8_turns, by decide⟩
theorem i_X29_1 : xLI RX29 1 m_X24_init 0 := ⟨Or.inr ⟨"LeaningMarket", xnw_in q1436 rfl⟩, q1388, q1389, w_X24_init, q138, ⟨by decide, by decide⟩, rfl, rfl, by decide⟩
theorem v_X29_7_3 : xLV RX29 7 m_X8_day 3 0 := ⟨RX8, TX8, 11, rfl, by decide, Or.inl ⟨q1501, q1503, ⟨by decide, by decide⟩, rfl⟩, q1502, q121, w_X8_day, by decide⟩
theorem i_X3_1 : xLI RX3 1 m_J19_init 0 := ⟨Or.inl q547, q153, q154, w_J19_init, q2560, ⟨by decide, by decide⟩, rfl, rfl, by decide⟩
theorem i_X30_3 : xLI RX30 3 m_X23_init 0 := ⟨Or.inr ⟨"LeaningMarket", xnw_in q1450 rfl⟩, q1391, q1392, w_X23_init, q137, ⟨by decide, by decide⟩, rfl, rfl, by decide⟩
theorem n_X30_9 : xNew RX30 9 2 3 [.int 0, .null, .int 0] := ⟨RJ2, TJ2, tyJ2, rfl, by decide, in_J2, tyJ2_ok, q1451, q162, q99, rfl, by decide +kernel⟩
theorem i_X30_11 : xLI RX30 11 m_J2_init 1 := ⟨Or.inl q1452, q164, q165, w_J2_init, q99, ⟨by decide, by decide⟩, rfl, rfl, by decide⟩
theorem f_X30_14_24 : xFld RX30 14 24 1 := ⟨RX30, TX30, 2, "LeaningMarket$Again", rfl, by decide, by decide, in_X30, Or.inl q1454, Or.inl rfl⟩
theorem p_X30_14_24 : xFldP RX30 14 24 1 (.object "java/util/ArrayList") true := ⟨RX30, TX30, 2, "LeaningMarket$Again", tyX30, rfl, by decide, by decide, in_X30, Or.inl q1454, Or.inl rfl, tyX30_ok, nmX30, rfl, (fun _ => rfl), rfl⟩
theorem f_X30_20_24 : xFld RX30 20 24 0 := ⟨RX30, TX30, 2, "LeaningMarket$Again", rfl, by decide, by decide, in_X30, Or.inl q1453, Or.inl rfl⟩
theorem p_X30_20_24 : xFldP RX30 20 24 0 .int true := ⟨RX30, TX30, 2, "LeaningMarket$Again", tyX30, rfl, by decide, by decide, in_X30, Or.inl q1453, Or.inl rfl, tyX30_ok, nmX30, rfl, (fun _ => rfl), rfl⟩
theorem f_X30_28_3 : xFld RX30 28 3 7 := ⟨RX8, TX8, 11, "LeaningMarket$Market", rfl, by decide, by decide, in_X8, Or.inr ⟨"LeaningMarket", xnw_in q597 rfl⟩, Or.inl rfl⟩
theorem v_X30_32_2 : xLV RX30 32 m_J2_size 2 0 := ⟨RJ2, TJ2, 3, rfl, by decide, Or.inl ⟨q1479, q648, ⟨by decide, by decide⟩, rfl⟩, q647, q99, w_J2_size, by decide⟩
theorem v_X30_36_2 : xLV RX30 36 m_J2_get 2 1 := ⟨RJ2, TJ2, 3, rfl, by decide, Or.inl ⟨q1480, q652, ⟨by decide, by decide⟩, rfl⟩, q651, q99, w_J2_get, by decide⟩
theorem v_X30_40_19 : xLV RX30 40 m_X24_goes 19 1 := ⟨RX25, TX25, 1, rfl, by decide, Or.inr (Or.inr ⟨⟨"LeaningMarket$Step", "goes", "(LLeaningMarket$Market;)V"⟩, "LeaningMarket$Step", q1482, q1471, Or.inr (xnw_in q1470 rfl), q1624, ⟨by decide, by decide⟩, rfl⟩), q1483, q138, w_X24_goes, by decide⟩
theorem v_X30_40_20 : xLV RX30 40 m_X24_goes 20 1 := ⟨RX26, TX26, 1, rfl, by decide, Or.inr (Or.inr ⟨⟨"LeaningMarket$Step", "goes", "(LLeaningMarket$Market;)V"⟩, "LeaningMarket$Step", q1482, q1471, Or.inr (xnw_in q1470 rfl), q1622, ⟨by decide, by decide⟩, rfl⟩), q1483, q138, w_X24_goes, by decide⟩
theorem v_X30_40_21 : xLV RX30 40 m_X24_goes 21 1 := ⟨RX27, TX27, 2, rfl, by decide, Or.inr (Or.inr ⟨⟨"LeaningMarket$Step", "goes", "(LLeaningMarket$Market;)V"⟩, "LeaningMarket$Step", q1482, q1471, Or.inr (xnw_in q1470 rfl), q1620, ⟨by decide, by decide⟩, rfl⟩), q1483, q138, w_X24_goes, by decide⟩
theorem v_X30_40_22 : xLV RX30 40 m_X24_goes 22 1 := ⟨RX28, xT0, 0, rfl, by decide, Or.inr (Or.inr ⟨⟨"LeaningMarket$Step", "goes", "(LLeaningMarket$Market;)V"⟩, "LeaningMarket$Step", q1482, q1471, Or.inr (xnw_in q1470 rfl), q1623, ⟨by decide, by decide⟩, rfl⟩), q1483, q138, w_X24_goes, by decide⟩
theorem v_X30_40_23 : xLV RX30 40 m_X24_goes 23 1 := ⟨RX29, xT0, 0, rfl, by decide, Or.inr (Or.inr ⟨⟨"LeaningMarket$Step", "goes", "(LLeaningMarket$Market;)V"⟩, "LeaningMarket$Step", q1482, q1471, Or.inr (xnw_in q1470 rfl), q1621, ⟨by decide, by decide⟩, rfl⟩), q1483, q138, w_X24_goes, by decide⟩
theorem v_X30_40_24 : xLV RX30 40 m_X30_goes 24 1 := ⟨RX30, TX30, 2, rfl, by decide, Or.inr (Or.inr ⟨⟨"LeaningMarket$Step", "goes", "(LLeaningMarket$Market;)V"⟩, "LeaningMarket$Step", q1482, q1471, Or.inr (xnw_in q1470 rfl), q1472, ⟨by decide, by decide⟩, rfl⟩), q1473, q144, w_X30_goes, by decide⟩
theorem i_X31_3 : xLI RX31 3 m_X11_init 2 := ⟨Or.inl q1637, q911, q912, w_X11_init, q125, ⟨by decide, by decide⟩, rfl, rfl, by decide⟩
theorem f_X31_9_18 : xFld RX31 9 18 6 := ⟨RX31, TX31, 8, "LeaningMarket$BookReader", rfl, by decide, by decide, in_X31, Or.inl q1639, Or.inl rfl⟩
theorem p_X31_9_18 : xFldP RX31 9 18 6 (.array .int) true := ⟨RX31, TX31, 8, "LeaningMarket$BookReader", tyX31, rfl, by decide, by decide, in_X31, Or.inl q1639, Or.inl rfl, tyX31_ok, nmX31, rfl, (fun _ => rfl), rfl⟩
theorem f_X31_15_18 : xFld RX31 15 18 5 := ⟨RX31, TX31, 8, "LeaningMarket$BookReader", rfl, by decide, by decide, in_X31, Or.inl q1638, Or.inl rfl⟩
theorem p_X31_15_18 : xFldP RX31 15 18 5 .int true := ⟨RX31, TX31, 8, "LeaningMarket$BookReader", tyX31, rfl, by decide, by decide, in_X31, Or.inl q1638, Or.inl rfl, tyX31_ok, nmX31, rfl, (fun _ => rfl), rfl⟩
theorem v_X31_19_18 : xLV RX31 19 m_X10_sign 18 0 := ⟨RX31, TX31, 8, rfl, by decide, Or.inr (Or.inr ⟨⟨"LeaningMarket$BookReader", "sign", "()I"⟩, "LeaningMarket$Reader", q1658, q1659, Or.inr (xnw_in q968 rfl), q1660, ⟨by decide, by decide⟩, rfl⟩), q970, q124, w_X10_sign, by decide⟩
theorem f_X31_23_18 : xFld RX31 23 18 2 := ⟨RX31, TX31, 8, "LeaningMarket$BookReader", rfl, by decide, by decide, in_X31, Or.inl q933, Or.inr q934⟩
theorem f_X31_23_17 : xFld RX31 23 17 2 := ⟨RX22, TX22, 6, "LeaningMarket$BookReader", rfl, by decide, by decide, in_X22, Or.inl q933, Or.inr q934⟩
theorem f_X31_23_15 : xFld RX31 23 15 2 := ⟨RX12, TX12, 6, "LeaningMarket$BookReader", rfl, by decide, by decide, in_X12, Or.inl q933, Or.inr q934⟩
theorem f_X31_23_16 : xFld RX31 23 16 2 := ⟨RX15, TX15, 5, "LeaningMarket$BookReader", rfl, by decide, by decide, in_X15, Or.inl q933, Or.inr q934⟩
theorem f_X31_26_18 : xFld RX31 26 18 1 := ⟨RX31, TX31, 8, "LeaningMarket$BookReader", rfl, by decide, by decide, in_X31, Or.inl q924, Or.inr q925⟩
theorem f_X31_26_17 : xFld RX31 26 17 1 := ⟨RX22, TX22, 6, "LeaningMarket$BookReader", rfl, by decide, by decide, in_X22, Or.inl q924, Or.inr q925⟩
theorem f_X31_26_15 : xFld RX31 26 15 1 := ⟨RX12, TX12, 6, "LeaningMarket$BookReader", rfl, by decide, by decide, in_X12, Or.inl q924, Or.inr q925⟩
theorem f_X31_26_16 : xFld RX31 26 16 1 := ⟨RX15, TX15, 5, "LeaningMarket$BookReader", rfl, by decide, by decide, in_X15, Or.inl q924, Or.inr q925⟩
theorem v_X31_29_18 : xLV RX31 29 m_X10_number 18 2 := ⟨RX31, TX31, 8, rfl, by decide, Or.inr (Or.inr ⟨⟨"LeaningMarket$BookReader", "number", "(II)I"⟩, "LeaningMarket$Reader", q1661, q1662, Or.inr (xnw_in q1123 rfl), q1663, ⟨by decide, by decide⟩, rfl⟩), q1125, q124, w_X10_number, by decide⟩
theorem f_X31_33_18 : xFld RX31 33 18 7 := ⟨RX31, TX31, 8, "LeaningMarket$BookReader", rfl, by decide, by decide, in_X31, Or.inl q1640, Or.inl rfl⟩
theorem p_X31_33_18 : xFldP RX31 33 18 7 .int false := ⟨RX31, TX31, 8, "LeaningMarket$BookReader", tyX31, rfl, by decide, by decide, in_X31, Or.inl q1640, Or.inl rfl, tyX31_ok, nmX31, rfl, (fun h => nomatch h), rfl⟩
theorem n_X31_36 : xNew RX31 36 14 8 [.null, .null, .null, .null, .null, .int 0, .int 0, .int 0] := ⟨RX13, TX13, tyX13, rfl, by decide, in_X13, tyX13_ok, q1664, q1086, q127, rfl, by decide +kernel⟩
theorem f_X31_38_18 : xFld RX31 38 18 3 := ⟨RX31, TX31, 8, "LeaningMarket$BookReader", rfl, by decide, by decide, in_X31, Or.inl q939, Or.inr q940⟩
theorem f_X31_38_17 : xFld RX31 38 17 3 := ⟨RX22, TX22, 6, "LeaningMarket$BookReader", rfl, by decide, by decide, in_X22, Or.inl q939, Or.inr q940⟩
theorem f_X31_38_15 : xFld RX31 38 15 3 := ⟨RX12, TX12, 6, "LeaningMarket$BookReader", rfl, by decide, by decide, in_X12, Or.inl q939, Or.inr q940⟩
theorem f_X31_38_16 : xFld RX31 38 16 3 := ⟨RX15, TX15, 5, "LeaningMarket$BookReader", rfl, by decide, by decide, in_X15, Or.inl q939, Or.inr q940⟩
theorem i_X31_41 : xLI RX31 41 m_X13_init 2 := ⟨Or.inl q1665, q1095, q1096, w_X13_init, q127, ⟨by decide, by decide⟩, rfl, rfl, by decide⟩
theorem v_X31_44_18 : xLV RX31 44 m_X11_other 18 2 := ⟨RX31, TX31, 8, rfl, by decide, Or.inr (Or.inr ⟨⟨"LeaningMarket$BookReader", "other", "(II)I"⟩, "LeaningMarket$PanReader", q1666, q1667, Or.inr (xnw_in q1668 rfl), q1669, ⟨by decide, by decide⟩, rfl⟩), q1142, q125, w_X11_other, by decide⟩
theorem v_X31_47_18 : xLV RX31 47 m_X10_need 18 1 := ⟨RX31, TX31, 8, rfl, by decide, Or.inr (Or.inr ⟨⟨"LeaningMarket$BookReader", "need", "(I)V"⟩, "LeaningMarket$Reader", q1670, q1671, Or.inr (xnw_in q1184 rfl), q1672, ⟨by decide, by decide⟩, rfl⟩), q1186, q124, w_X10_need, by decide⟩
theorem i_X4_1 : xLI RX4 1 m_X3_init 0 := ⟨Or.inr ⟨"LeaningMarket", xnw_in q568 rfl⟩, q545, q546, w_X3_init, q116, ⟨by decide, by decide⟩, rfl, rfl, by decide⟩
theorem f_X4_7_8 : xFld RX4 7 8 0 := ⟨RX16, TX16, 2, "LeaningMarket$Two", rfl, by decide, by decide, in_X16, Or.inl q569, Or.inl rfl⟩
theorem p_X4_7_8 : xFldP RX4 7 8 0 (.object "LeaningMarket$Term") true := ⟨RX16, TX16, 2, "LeaningMarket$Two", tyX16, rfl, by decide, by decide, in_X16, Or.inl q569, Or.inl rfl, tyX16_ok, nmX16, rfl, (fun _ => rfl), rfl⟩
theorem f_X4_7_5 : xFld RX4 7 5 0 := ⟨RX5, TX5, 2, "LeaningMarket$Two", rfl, by decide, by decide, in_X5, Or.inl q569, Or.inl rfl⟩
theorem p_X4_7_5 : xFldP RX4 7 5 0 (.object "LeaningMarket$Term") true := ⟨RX5, TX5, 2, "LeaningMarket$Two", tyX5, rfl, by decide, by decide, in_X5, Or.inl q569, Or.inl rfl, tyX5_ok, nmX5, rfl, (fun _ => rfl), rfl⟩
theorem f_X4_7_13 : xFld RX4 7 13 0 := ⟨RX21, TX21, 2, "LeaningMarket$Two", rfl, by decide, by decide, in_X21, Or.inl q569, Or.inl rfl⟩
theorem p_X4_7_13 : xFldP RX4 7 13 0 (.object "LeaningMarket$Term") true := ⟨RX21, TX21, 2, "LeaningMarket$Two", tyX21, rfl, by decide, by decide, in_X21, Or.inl q569, Or.inl rfl, tyX21_ok, nmX21, rfl, (fun _ => rfl), rfl⟩
theorem f_X4_7_12 : xFld RX4 7 12 0 := ⟨RX20, TX20, 2, "LeaningMarket$Two", rfl, by decide, by decide, in_X20, Or.inl q569, Or.inl rfl⟩
theorem p_X4_7_12 : xFldP RX4 7 12 0 (.object "LeaningMarket$Term") true := ⟨RX20, TX20, 2, "LeaningMarket$Two", tyX20, rfl, by decide, by decide, in_X20, Or.inl q569, Or.inl rfl, tyX20_ok, nmX20, rfl, (fun _ => rfl), rfl⟩
theorem f_X4_7_11 : xFld RX4 7 11 0 := ⟨RX19, TX19, 2, "LeaningMarket$Two", rfl, by decide, by decide, in_X19, Or.inl q569, Or.inl rfl⟩
theorem p_X4_7_11 : xFldP RX4 7 11 0 (.object "LeaningMarket$Term") true := ⟨RX19, TX19, 2, "LeaningMarket$Two", tyX19, rfl, by decide, by decide, in_X19, Or.inl q569, Or.inl rfl, tyX19_ok, nmX19, rfl, (fun _ => rfl), rfl⟩
theorem f_X4_7_10 : xFld RX4 7 10 0 := ⟨RX18, TX18, 2, "LeaningMarket$Two", rfl, by decide, by decide, in_X18, Or.inl q569, Or.inl rfl⟩
theorem p_X4_7_10 : xFldP RX4 7 10 0 (.object "LeaningMarket$Term") true := ⟨RX18, TX18, 2, "LeaningMarket$Two", tyX18, rfl, by decide, by decide, in_X18, Or.inl q569, Or.inl rfl, tyX18_ok, nmX18, rfl, (fun _ => rfl), rfl⟩
theorem f_X4_7_9 : xFld RX4 7 9 0 := ⟨RX17, TX17, 2, "LeaningMarket$Two", rfl, by decide, by decide, in_X17, Or.inl q569, Or.inl rfl⟩
theorem p_X4_7_9 : xFldP RX4 7 9 0 (.object "LeaningMarket$Term") true := ⟨RX17, TX17, 2, "LeaningMarket$Two", tyX17, rfl, by decide, by decide, in_X17, Or.inl q569, Or.inl rfl, tyX17_ok, nmX17, rfl, (fun _ => rfl), rfl⟩
theorem f_X4_13_8 : xFld RX4 13 8 1 := ⟨RX16, TX16, 2, "LeaningMarket$Two", rfl, by decide, by decide, in_X16, Or.inl q570, Or.inl rfl⟩
theorem p_X4_13_8 : xFldP RX4 13 8 1 (.object "LeaningMarket$Term") true := ⟨RX16, TX16, 2, "LeaningMarket$Two", tyX16, rfl, by decide, by decide, in_X16, Or.inl q570, Or.inl rfl, tyX16_ok, nmX16, rfl, (fun _ => rfl), rfl⟩
theorem f_X4_13_5 : xFld RX4 13 5 1 := ⟨RX5, TX5, 2, "LeaningMarket$Two", rfl, by decide, by decide, in_X5, Or.inl q570, Or.inl rfl⟩
theorem p_X4_13_5 : xFldP RX4 13 5 1 (.object "LeaningMarket$Term") true := ⟨RX5, TX5, 2, "LeaningMarket$Two", tyX5, rfl, by decide, by decide, in_X5, Or.inl q570, Or.inl rfl, tyX5_ok, nmX5, rfl, (fun _ => rfl), rfl⟩
theorem f_X4_13_13 : xFld RX4 13 13 1 := ⟨RX21, TX21, 2, "LeaningMarket$Two", rfl, by decide, by decide, in_X21, Or.inl q570, Or.inl rfl⟩
theorem p_X4_13_13 : xFldP RX4 13 13 1 (.object "LeaningMarket$Term") true := ⟨RX21, TX21, 2, "LeaningMarket$Two", tyX21, rfl, by decide, by decide, in_X21, Or.inl q570, Or.inl rfl, tyX21_ok, nmX21, rfl, (fun _ => rfl), rfl⟩
theorem f_X4_13_12 : xFld RX4 13 12 1 := ⟨RX20, TX20, 2, "LeaningMarket$Two", rfl, by decide, by decide, in_X20, Or.inl q570, Or.inl rfl⟩
theorem p_X4_13_12 : xFldP RX4 13 12 1 (.object "LeaningMarket$Term") true := ⟨RX20, TX20, 2, "LeaningMarket$Two", tyX20, rfl, by decide, by decide, in_X20, Or.inl q570, Or.inl rfl, tyX20_ok, nmX20, rfl, (fun _ => rfl), rfl⟩
theorem f_X4_13_11 : xFld RX4 13 11 1 := ⟨RX19, TX19, 2, "LeaningMarket$Two", rfl, by decide, by decide, in_X19, Or.inl q570, Or.inl rfl⟩
theorem p_X4_13_11 : xFldP RX4 13 11 1 (.object "LeaningMarket$Term") true := ⟨RX19, TX19, 2, "LeaningMarket$Two", tyX19, rfl, by decide, by decide, in_X19, Or.inl q570, Or.inl rfl, tyX19_ok, nmX19, rfl, (fun _ => rfl), rfl⟩
theorem f_X4_13_10 : xFld RX4 13 10 1 := ⟨RX18, TX18, 2, "LeaningMarket$Two", rfl, by decide, by decide, in_X18, Or.inl q570, Or.inl rfl⟩
theorem p_X4_13_10 : xFldP RX4 13 10 1 (.object "LeaningMarket$Term") true := ⟨RX18, TX18, 2, "LeaningMarket$Two", tyX18, rfl, by decide, by decide, in_X18, Or.inl q570, Or.inl rfl, tyX18_ok, nmX18, rfl, (fun _ => rfl), rfl⟩
theorem f_X4_13_9 : xFld RX4 13 9 1 := ⟨RX17, TX17, 2, "LeaningMarket$Two", rfl, by decide, by decide, in_X17, Or.inl q570, Or.inl rfl⟩
theorem p_X4_13_9 : xFldP RX4 13 9 1 (.object "LeaningMarket$Term") true := ⟨RX17, TX17, 2, "LeaningMarket$Two", tyX17, rfl, by decide, by decide, in_X17, Or.inl q570, Or.inl rfl, tyX17_ok, nmX17, rfl, (fun _ => rfl), rfl⟩
theorem v_X4_16_5 : xLV RX4 16 m_X4_of 5 1 := ⟨RX5, TX5, 2, rfl, by decide, Or.inr (Or.inr ⟨⟨"LeaningMarket$Term", "of", "([I)I"⟩, "LeaningMarket$Term", q1532, q1528, Or.inr (xnw_in q1527 rfl), q1529, ⟨by decide, by decide⟩, rfl⟩), q1530, q117, w_X4_of, by decide⟩
theorem v_X4_16_6 : xLV RX4 16 m_X6_of 6 1 := ⟨RX6, TX6, 1, rfl, by decide, Or.inr (Or.inr ⟨⟨"LeaningMarket$Term", "of", "([I)I"⟩, "LeaningMarket$Term", q1532, q1528, Or.inr (xnw_in q1527 rfl), q1563, ⟨by decide, by decide⟩, rfl⟩), q1533, q119, w_X6_of, by decide⟩
theorem v_X4_16_7 : xLV RX4 16 m_X7_of 7 1 := ⟨RX7, TX7, 1, rfl, by decide, Or.inr (Or.inr ⟨⟨"LeaningMarket$Term", "of", "([I)I"⟩, "LeaningMarket$Term", q1532, q1528, Or.inr (xnw_in q1527 rfl), q1568, ⟨by decide, by decide⟩, rfl⟩), q1535, q120, w_X7_of, by decide⟩
theorem v_X4_16_8 : xLV RX4 16 m_X4_of 8 1 := ⟨RX16, TX16, 2, rfl, by decide, Or.inr (Or.inr ⟨⟨"LeaningMarket$Term", "of", "([I)I"⟩, "LeaningMarket$Term", q1532, q1528, Or.inr (xnw_in q1527 rfl), q1564, ⟨by decide, by decide⟩, rfl⟩), q1530, q117, w_X4_of, by decide⟩
theorem v_X4_16_9 : xLV RX4 16 m_X4_of 9 1 := ⟨RX17, TX17, 2, rfl, by decide, Or.inr (Or.inr ⟨⟨"LeaningMarket$Term", "of", "([I)I"⟩, "LeaningMarket$Term", q1532, q1528, Or.inr (xnw_in q1527 rfl), q1567, ⟨by decide, by decide⟩, rfl⟩), q1530, q117, w_X4_of, by decide⟩
theorem v_X4_16_10 : xLV RX4 16 m_X4_of 10 1 := ⟨RX18, TX18, 2, rfl, by decide, Or.inr (Or.inr ⟨⟨"LeaningMarket$Term", "of", "([I)I"⟩, "LeaningMarket$Term", q1532, q1528, Or.inr (xnw_in q1527 rfl), q1570, ⟨by decide, by decide⟩, rfl⟩), q1530, q117, w_X4_of, by decide⟩
theorem v_X4_16_11 : xLV RX4 16 m_X4_of 11 1 := ⟨RX19, TX19, 2, rfl, by decide, Or.inr (Or.inr ⟨⟨"LeaningMarket$Term", "of", "([I)I"⟩, "LeaningMarket$Term", q1532, q1528, Or.inr (xnw_in q1527 rfl), q1565, ⟨by decide, by decide⟩, rfl⟩), q1530, q117, w_X4_of, by decide⟩
theorem v_X4_16_12 : xLV RX4 16 m_X4_of 12 1 := ⟨RX20, TX20, 2, rfl, by decide, Or.inr (Or.inr ⟨⟨"LeaningMarket$Term", "of", "([I)I"⟩, "LeaningMarket$Term", q1532, q1528, Or.inr (xnw_in q1527 rfl), q1569, ⟨by decide, by decide⟩, rfl⟩), q1530, q117, w_X4_of, by decide⟩
theorem v_X4_16_13 : xLV RX4 16 m_X4_of 13 1 := ⟨RX21, TX21, 2, rfl, by decide, Or.inr (Or.inr ⟨⟨"LeaningMarket$Term", "of", "([I)I"⟩, "LeaningMarket$Term", q1532, q1528, Or.inr (xnw_in q1527 rfl), q1566, ⟨by decide, by decide⟩, rfl⟩), q1530, q117, w_X4_of, by decide⟩
theorem v_X4_20_5 : xLV RX4 20 m_X5_with 5 2 := ⟨RX5, TX5, 2, rfl, by decide, Or.inr (Or.inr ⟨⟨"LeaningMarket$Two", "with", "(II)I"⟩, "LeaningMarket$Two", q1537, q1539, Or.inr (xnw_in q1538 rfl), q1540, ⟨by decide, by decide⟩, rfl⟩), q1541, q118, w_X5_with, by decide⟩
theorem v_X4_20_8 : xLV RX4 20 m_X16_with 8 2 := ⟨RX16, TX16, 2, rfl, by decide, Or.inr (Or.inr ⟨⟨"LeaningMarket$Two", "with", "(II)I"⟩, "LeaningMarket$Two", q1537, q1539, Or.inr (xnw_in q1538 rfl), q1543, ⟨by decide, by decide⟩, rfl⟩), q1544, q130, w_X16_with, by decide⟩
theorem v_X4_20_9 : xLV RX4 20 m_X17_with 9 2 := ⟨RX17, TX17, 2, rfl, by decide, Or.inr (Or.inr ⟨⟨"LeaningMarket$Two", "with", "(II)I"⟩, "LeaningMarket$Two", q1537, q1539, Or.inr (xnw_in q1538 rfl), q1553, ⟨by decide, by decide⟩, rfl⟩), q1554, q131, w_X17_with, by decide⟩
theorem v_X4_20_10 : xLV RX4 20 m_X18_with 10 2 := ⟨RX18, TX18, 2, rfl, by decide, Or.inr (Or.inr ⟨⟨"LeaningMarket$Two", "with", "(II)I"⟩, "LeaningMarket$Two", q1537, q1539, Or.inr (xnw_in q1538 rfl), q1560, ⟨by decide, by decide⟩, rfl⟩), q1561, q132, w_X18_with, by decide⟩
theorem v_X4_20_11 : xLV RX4 20 m_X19_with 11 2 := ⟨RX19, TX19, 2, rfl, by decide, Or.inr (Or.inr ⟨⟨"LeaningMarket$Two", "with", "(II)I"⟩, "LeaningMarket$Two", q1537, q1539, Or.inr (xnw_in q1538 rfl), q1547, ⟨by decide, by decide⟩, rfl⟩), q1548, q133, w_X19_with, by decide⟩
theorem v_X4_20_12 : xLV RX4 20 m_X20_with 12 2 := ⟨RX20, TX20, 2, rfl, by decide, Or.inr (Or.inr ⟨⟨"LeaningMarket$Two", "with", "(II)I"⟩, "LeaningMarket$Two", q1537, q1539, Or.inr (xnw_in q1538 rfl), q1557, ⟨by decide, by decide⟩, rfl⟩), q1558, q134, w_X20_with, by decide⟩
theorem v_X4_20_13 : xLV RX4 20 m_X21_with 13 2 := ⟨RX21, TX21, 2, rfl, by decide, Or.inr (Or.inr ⟨⟨"LeaningMarket$Two", "with", "(II)I"⟩, "LeaningMarket$Two", q1537, q1539, Or.inr (xnw_in q1538 rfl), q1550, ⟨by decide, by decide⟩, rfl⟩), q1551, q135, w_X21_with, by decide⟩
theorem i_X5_1 : xLI RX5 1 m_X4_init 2 := ⟨Or.inl q565, q566, q567, w_X4_init, q117, ⟨by decide, by decide⟩, rfl, rfl, by decide⟩
theorem i_X6_1 : xLI RX6 1 m_X3_init 0 := ⟨Or.inr ⟨"LeaningMarket", xnw_in q544 rfl⟩, q545, q546, w_X3_init, q116, ⟨by decide, by decide⟩, rfl, rfl, by decide⟩
theorem f_X6_7_6 : xFld RX6 7 6 0 := ⟨RX6, TX6, 1, "LeaningMarket$Fact", rfl, by decide, by decide, in_X6, Or.inl q548, Or.inl rfl⟩
theorem p_X6_7_6 : xFldP RX6 7 6 0 .int true := ⟨RX6, TX6, 1, "LeaningMarket$Fact", tyX6, rfl, by decide, by decide, in_X6, Or.inl q548, Or.inl rfl, tyX6_ok, nmX6, rfl, (fun _ => rfl), rfl⟩
theorem i_X7_1 : xLI RX7 1 m_X3_init 0 := ⟨Or.inr ⟨"LeaningMarket", xnw_in q557 rfl⟩, q545, q546, w_X3_init, q116, ⟨by decide, by decide⟩, rfl, rfl, by decide⟩
theorem f_X7_7_7 : xFld RX7 7 7 0 := ⟨RX7, TX7, 1, "LeaningMarket$Plain", rfl, by decide, by decide, in_X7, Or.inl q558, Or.inl rfl⟩
theorem p_X7_7_7 : xFldP RX7 7 7 0 .int true := ⟨RX7, TX7, 1, "LeaningMarket$Plain", tyX7, rfl, by decide, by decide, in_X7, Or.inl q558, Or.inl rfl, tyX7_ok, nmX7, rfl, (fun _ => rfl), rfl⟩
theorem f_X8_3_3 : xFld RX8 3 3 10 := ⟨RX8, TX8, 11, "LeaningMarket$Market", rfl, by decide, by decide, in_X8, Or.inl q604, Or.inl rfl⟩
theorem p_X8_3_3 : xFldP RX8 3 3 10 (.object "LeaningMarket") true := ⟨RX8, TX8, 11, "LeaningMarket$Market", tyX8, rfl, by decide, by decide, in_X8, Or.inl q604, Or.inl rfl, tyX8_ok, nmX8, rfl, (fun _ => rfl), rfl⟩
theorem i_X8_9 : xLI RX8 9 m_J19_init 0 := ⟨Or.inl q581, q153, q154, w_J19_init, q2560, ⟨by decide, by decide⟩, rfl, rfl, by decide⟩
theorem f_X8_15_3 : xFld RX8 15 3 0 := ⟨RX8, TX8, 11, "LeaningMarket$Market", rfl, by decide, by decide, in_X8, Or.inl q584, Or.inl rfl⟩
theorem p_X8_15_3 : xFldP RX8 15 3 0 (.array .int) true := ⟨RX8, TX8, 11, "LeaningMarket$Market", tyX8, rfl, by decide, by decide, in_X8, Or.inl q584, Or.inl rfl, tyX8_ok, nmX8, rfl, (fun _ => rfl), rfl⟩
theorem f_X8_19_3 : xFld RX8 19 3 1 := ⟨RX8, TX8, 11, "LeaningMarket$Market", rfl, by decide, by decide, in_X8, Or.inl q586, Or.inl rfl⟩
theorem p_X8_19_3 : xFldP RX8 19 3 1 (.array .int) true := ⟨RX8, TX8, 11, "LeaningMarket$Market", tyX8, rfl, by decide, by decide, in_X8, Or.inl q586, Or.inl rfl, tyX8_ok, nmX8, rfl, (fun _ => rfl), rfl⟩
theorem f_X8_22_3 : xFld RX8 22 3 2 := ⟨RX8, TX8, 11, "LeaningMarket$Market", rfl, by decide, by decide, in_X8, Or.inl q588, Or.inl rfl⟩
theorem p_X8_22_3 : xFldP RX8 22 3 2 (.array .int) true := ⟨RX8, TX8, 11, "LeaningMarket$Market", tyX8, rfl, by decide, by decide, in_X8, Or.inl q588, Or.inl rfl, tyX8_ok, nmX8, rfl, (fun _ => rfl), rfl⟩
theorem n_X8_25 : xNew RX8 25 2 3 [.int 0, .null, .int 0] := ⟨RJ2, TJ2, tyJ2, rfl, by decide, in_J2, tyJ2_ok, q582, q162, q99, rfl, by decide +kernel⟩
theorem i_X8_27 : xLI RX8 27 m_J2_init 1 := ⟨Or.inl q583, q164, q165, w_J2_init, q99, ⟨by decide, by decide⟩, rfl, rfl, by decide⟩
theorem f_X8_30_3 : xFld RX8 30 3 3 := ⟨RX8, TX8, 11, "LeaningMarket$Market", rfl, by decide, by decide, in_X8, Or.inl q589, Or.inl rfl⟩
theorem p_X8_30_3 : xFldP RX8 30 3 3 (.object "java/util/ArrayList") true := ⟨RX8, TX8, 11, "LeaningMarket$Market", tyX8, rfl, by decide, by decide, in_X8, Or.inl q589, Or.inl rfl, tyX8_ok, nmX8, rfl, (fun _ => rfl), rfl⟩
theorem f_X8_34_0 : xFld RX8 34 0 0 := ⟨RX1, TX1, 25, "LeaningMarket", rfl, by decide, by decide, in_X1, Or.inr ⟨"LeaningMarket", xnw_in q728 rfl⟩, Or.inl rfl⟩
theorem f_X8_38_1 : xFld RX8 38 1 0 := ⟨RX2, TX2, 6, "LeaningMarket$Told", rfl, by decide, by decide, in_X2, Or.inr ⟨"LeaningMarket", xnw_in q505 rfl⟩, Or.inl rfl⟩
theorem f_X8_47_1 : xFld RX8 47 1 1 := ⟨RX2, TX2, 6, "LeaningMarket$Told", rfl, by decide, by decide, in_X2, Or.inr ⟨"LeaningMarket", xnw_in q509 rfl⟩, Or.inl rfl⟩
theorem v_X8_48_3 : xLV RX8 48 m_X8_cries 3 1 := ⟨RX8, TX8, 11, rfl, by decide, Or.inl ⟨q638, qs2, ⟨by decide, by decide⟩, rfl⟩, q640, q121, w_X8_cries, by decide⟩
theorem f_X8_51_1 : xFld RX8 51 1 3 := ⟨RX2, TX2, 6, "LeaningMarket$Told", rfl, by decide, by decide, in_X2, Or.inr ⟨"LeaningMarket", xnw_in q515 rfl⟩, Or.inl rfl⟩
theorem f_X8_55_3 : xFld RX8 55 3 4 := ⟨RX8, TX8, 11, "LeaningMarket$Market", rfl, by decide, by decide, in_X8, Or.inl q591, Or.inl rfl⟩
theorem p_X8_55_3 : xFldP RX8 55 3 4 .int false := ⟨RX8, TX8, 11, "LeaningMarket$Market", tyX8, rfl, by decide, by decide, in_X8, Or.inl q591, Or.inl rfl, tyX8_ok, nmX8, rfl, (fun h => nomatch h), rfl⟩
theorem f_X8_56_3 : xFld RX8 56 3 5 := ⟨RX8, TX8, 11, "LeaningMarket$Market", rfl, by decide, by decide, in_X8, Or.inl q593, Or.inl rfl⟩
theorem p_X8_56_3 : xFldP RX8 56 3 5 .int false := ⟨RX8, TX8, 11, "LeaningMarket$Market", tyX8, rfl, by decide, by decide, in_X8, Or.inl q593, Or.inl rfl, tyX8_ok, nmX8, rfl, (fun h => nomatch h), rfl⟩
theorem f_X8_59_3 : xFld RX8 59 3 6 := ⟨RX8, TX8, 11, "LeaningMarket$Market", rfl, by decide, by decide, in_X8, Or.inl q595, Or.inl rfl⟩
theorem p_X8_59_3 : xFldP RX8 59 3 6 .int false := ⟨RX8, TX8, 11, "LeaningMarket$Market", tyX8, rfl, by decide, by decide, in_X8, Or.inl q595, Or.inl rfl, tyX8_ok, nmX8, rfl, (fun h => nomatch h), rfl⟩
theorem v_X8_62_2 : xLV RX8 62 m_J2_clear 2 0 := ⟨RJ2, TJ2, 3, rfl, by decide, Or.inl ⟨q642, q644, ⟨by decide, by decide⟩, rfl⟩, q643, q99, w_J2_clear, by decide⟩
theorem v_X8_65_2 : xLV RX8 65 m_J2_size 2 0 := ⟨RJ2, TJ2, 3, rfl, by decide, Or.inl ⟨q646, q648, ⟨by decide, by decide⟩, rfl⟩, q647, q99, w_J2_size, by decide⟩
theorem v_X8_69_2 : xLV RX8 69 m_J2_get 2 1 := ⟨RJ2, TJ2, 3, rfl, by decide, Or.inl ⟨q650, q652, ⟨by decide, by decide⟩, rfl⟩, q651, q99, w_J2_get, by decide⟩
theorem n_X8_73 : xNew RX8 73 4 4 [.int 0, .int 0, .int 0, .int 0] := ⟨RX14, TX14, tyX14, rfl, by decide, in_X14, tyX14_ok, q664, q1151, q128, rfl, by decide +kernel⟩
theorem v_X8_75_2 : xLV RX8 75 m_J2_add 2 1 := ⟨RJ2, TJ2, 3, rfl, by decide, Or.inl ⟨q665, q667, ⟨by decide, by decide⟩, rfl⟩, q666, q99, w_J2_add, by decide⟩
theorem f_X8_79_1 : xFld RX8 79 1 4 := ⟨RX2, TX2, 6, "LeaningMarket$Told", rfl, by decide, by decide, in_X2, Or.inr ⟨"LeaningMarket", xnw_in q518 rfl⟩, Or.inl rfl⟩
theorem s_X8_82 : xLS RX8 82 m_X1_standsBy 3 := ⟨Or.inr ⟨"LeaningMarket", xnw_in q1608 rfl⟩, q1609, q95, w_X1_standsBy, ⟨by decide, by decide⟩, rfl, by decide⟩
theorem f_X8_86_4 : xFld RX8 86 4 1 := ⟨RX14, TX14, 4, "LeaningMarket$Cry", rfl, by decide, by decide, in_X14, Or.inr ⟨"LeaningMarket", xnw_in q1162 rfl⟩, Or.inl rfl⟩
theorem f_X8_89_4 : xFld RX8 89 4 0 := ⟨RX14, TX14, 4, "LeaningMarket$Cry", rfl, by decide, by decide, in_X14, Or.inr ⟨"LeaningMarket", xnw_in q1158 rfl⟩, Or.inl rfl⟩
theorem f_X8_92_4 : xFld RX8 92 4 3 := ⟨RX14, TX14, 4, "LeaningMarket$Cry", rfl, by decide, by decide, in_X14, Or.inr ⟨"LeaningMarket", xnw_in q1170 rfl⟩, Or.inl rfl⟩
theorem f_X8_95_4 : xFld RX8 95 4 2 := ⟨RX14, TX14, 4, "LeaningMarket$Cry", rfl, by decide, by decide, in_X14, Or.inr ⟨"LeaningMarket", xnw_in q1166 rfl⟩, Or.inl rfl⟩
theorem v_X8_98_3 : xLV RX8 98 m_X8_isSo 3 1 := ⟨RX8, TX8, 11, rfl, by decide, Or.inl ⟨q1692, q1694, ⟨by decide, by decide⟩, rfl⟩, q1693, q121, w_X8_isSo, by decide⟩
theorem v_X8_102_4 : xLV RX8 102 m_X14_isOf 4 1 := ⟨RX14, TX14, 4, rfl, by decide, Or.inl ⟨q1517, q1519, ⟨by decide, by decide⟩, rfl⟩, q1518, q128, w_X14_isOf, by decide⟩
theorem f_X8_106_1 : xFld RX8 106 1 2 := ⟨RX2, TX2, 6, "LeaningMarket$Told", rfl, by decide, by decide, in_X2, Or.inr ⟨"LeaningMarket", xnw_in q513 rfl⟩, Or.inl rfl⟩
theorem v_X8_109_3 : xLV RX8 109 m_X8_criesOf 3 1 := ⟨RX8, TX8, 11, rfl, by decide, Or.inl ⟨q1513, q1515, ⟨by decide, by decide⟩, rfl⟩, q1514, q121, w_X8_criesOf, by decide⟩
theorem s_X8_113 : xLS RX8 113 m_J16_bitCount 1 := ⟨Or.inl q1521, q853, q115, w_J16_bitCount, ⟨by decide, by decide⟩, rfl, by decide⟩
theorem v_X8_118_0 : xLV RX8 118 m_X1_wearBy 0 7 := ⟨RX1, TX1, 25, rfl, by decide, Or.inr (Or.inl ⟨"LeaningMarket", xnw_in q1522 rfl, qs23, ⟨by decide, by decide⟩, rfl⟩), q1524, q95, w_X1_wearBy, by decide⟩
theorem v_X8_122_4 : xLV RX8 122 m_X14_isLike 4 1 := ⟨RX14, TX14, 4, rfl, by decide, Or.inl ⟨q1616, q1618, ⟨by decide, by decide⟩, rfl⟩, q1617, q128, w_X14_isLike, by decide⟩
theorem v_X8_125_3 : xLV RX8 125 m_X8_stands 3 4 := ⟨RX8, TX8, 11, rfl, by decide, Or.inl ⟨q1604, q1606, ⟨by decide, by decide⟩, rfl⟩, q1605, q121, w_X8_stands, by decide⟩
theorem i_X8_129 : xLI RX8 129 m_X14_init 4 := ⟨Or.inl q1611, q1153, q1154, w_X14_init, q128, ⟨by decide, by decide⟩, rfl, rfl, by decide⟩
theorem v_X8_132_3 : xLV RX8 132 m_X8_isCried 3 1 := ⟨RX8, TX8, 11, rfl, by decide, Or.inl ⟨q1612, qs25, ⟨by decide, by decide⟩, rfl⟩, q1614, q121, w_X8_isCried, by decide⟩
theorem v_X8_135_2 : xLV RX8 135 m_J2_remove 2 1 := ⟨RJ2, TJ2, 3, rfl, by decide, Or.inl ⟨q1581, q1583, ⟨by decide, by decide⟩, rfl⟩, q1582, q99, w_J2_remove, by decide⟩
theorem s_X8_138 : xLS RX8 138 m_J12_min 2 := ⟨Or.inl q1497, q293, q109, w_J12_min, ⟨by decide, by decide⟩, rfl, by decide⟩
theorem v_X8_144_3 : xLV RX8 144 m_X8_passes 3 0 := ⟨RX8, TX8, 11, rfl, by decide, Or.inl ⟨q1505, q1507, ⟨by decide, by decide⟩, rfl⟩, q1506, q121, w_X8_passes, by decide⟩
theorem v_X8_147_3 : xLV RX8 147 m_X8_wear 3 1 := ⟨RX8, TX8, 11, rfl, by decide, Or.inl ⟨q1509, q1511, ⟨by decide, by decide⟩, rfl⟩, q1510, q121, w_X8_wear, by decide⟩
theorem s_X8_150 : xLS RX8 150 m_J12_max 2 := ⟨Or.inl q1573, q275, q109, w_J12_max, ⟨by decide, by decide⟩, rfl, by decide⟩
theorem i_X9_1 : xLI RX9 1 m_J19_init 0 := ⟨Or.inl q1949, q153, q154, w_J19_init, q2560, ⟨by decide, by decide⟩, rfl, rfl, by decide⟩
theorem f_X9_9_27 : xFld RX9 9 27 3 := ⟨RX9, TX9, 46, "LeaningMarketModel", rfl, by decide, by decide, in_X9, Or.inl q1966, Or.inl rfl⟩
theorem p_X9_9_27 : xFldP RX9 9 27 3 .int false := ⟨RX9, TX9, 46, "LeaningMarketModel", tyX9, rfl, by decide, by decide, in_X9, Or.inl q1966, Or.inl rfl, tyX9_ok, nmX9, rfl, (fun h => nomatch h), rfl⟩
theorem f_X9_13_27 : xFld RX9 13 27 9 := ⟨RX9, TX9, 46, "LeaningMarketModel", rfl, by decide, by decide, in_X9, Or.inl q1972, Or.inl rfl⟩
theorem p_X9_13_27 : xFldP RX9 13 27 9 (.array .int) true := ⟨RX9, TX9, 46, "LeaningMarketModel", tyX9, rfl, by decide, by decide, in_X9, Or.inl q1972, Or.inl rfl, tyX9_ok, nmX9, rfl, (fun _ => rfl), rfl⟩
theorem f_X9_17_27 : xFld RX9 17 27 10 := ⟨RX9, TX9, 46, "LeaningMarketModel", rfl, by decide, by decide, in_X9, Or.inl q1973, Or.inl rfl⟩
theorem p_X9_17_27 : xFldP RX9 17 27 10 (.array .int) true := ⟨RX9, TX9, 46, "LeaningMarketModel", tyX9, rfl, by decide, by decide, in_X9, Or.inl q1973, Or.inl rfl, tyX9_ok, nmX9, rfl, (fun _ => rfl), rfl⟩
theorem f_X9_20_27 : xFld RX9 20 27 11 := ⟨RX9, TX9, 46, "LeaningMarketModel", rfl, by decide, by decide, in_X9, Or.inl q1974, Or.inl rfl⟩
theorem p_X9_20_27 : xFldP RX9 20 27 11 (.array .int) true := ⟨RX9, TX9, 46, "LeaningMarketModel", tyX9, rfl, by decide, by decide, in_X9, Or.inl q1974, Or.inl rfl, tyX9_ok, nmX9, rfl, (fun _ => rfl), rfl⟩
theorem f_X9_23_27 : xFld RX9 23 27 12 := ⟨RX9, TX9, 46, "LeaningMarketModel", rfl, by decide, by decide, in_X9, Or.inl q1975, Or.inl rfl⟩
theorem p_X9_23_27 : xFldP RX9 23 27 12 (.array .int) true := ⟨RX9, TX9, 46, "LeaningMarketModel", tyX9, rfl, by decide, by decide, in_X9, Or.inl q1975, Or.inl rfl, tyX9_ok, nmX9, rfl, (fun _ => rfl), rfl⟩
theorem f_X9_26_27 : xFld RX9 26 27 13 := ⟨RX9, TX9, 46, "LeaningMarketModel", rfl, by decide, by decide, in_X9, Or.inl q1976, Or.inl rfl⟩
theorem p_X9_26_27 : xFldP RX9 26 27 13 (.array .int) true := ⟨RX9, TX9, 46, "LeaningMarketModel", tyX9, rfl, by decide, by decide, in_X9, Or.inl q1976, Or.inl rfl, tyX9_ok, nmX9, rfl, (fun _ => rfl), rfl⟩
theorem f_X9_29_27 : xFld RX9 29 27 14 := ⟨RX9, TX9, 46, "LeaningMarketModel", rfl, by decide, by decide, in_X9, Or.inl q1977, Or.inl rfl⟩
theorem p_X9_29_27 : xFldP RX9 29 27 14 (.array .int) true := ⟨RX9, TX9, 46, "LeaningMarketModel", tyX9, rfl, by decide, by decide, in_X9, Or.inl q1977, Or.inl rfl, tyX9_ok, nmX9, rfl, (fun _ => rfl), rfl⟩
theorem f_X9_34_27 : xFld RX9 34 27 15 := ⟨RX9, TX9, 46, "LeaningMarketModel", rfl, by decide, by decide, in_X9, Or.inl q1978, Or.inl rfl⟩
theorem p_X9_34_27 : xFldP RX9 34 27 15 (.array (.array .int)) true := ⟨RX9, TX9, 46, "LeaningMarketModel", tyX9, rfl, by decide, by decide, in_X9, Or.inl q1978, Or.inl rfl, tyX9_ok, nmX9, rfl, (fun _ => rfl), rfl⟩
theorem f_X9_37_27 : xFld RX9 37 27 16 := ⟨RX9, TX9, 46, "LeaningMarketModel", rfl, by decide, by decide, in_X9, Or.inl q1979, Or.inl rfl⟩
theorem p_X9_37_27 : xFldP RX9 37 27 16 (.array (.array .int)) true := ⟨RX9, TX9, 46, "LeaningMarketModel", tyX9, rfl, by decide, by decide, in_X9, Or.inl q1979, Or.inl rfl, tyX9_ok, nmX9, rfl, (fun _ => rfl), rfl⟩
theorem f_X9_40_27 : xFld RX9 40 27 19 := ⟨RX9, TX9, 46, "LeaningMarketModel", rfl, by decide, by decide, in_X9, Or.inl q1982, Or.inl rfl⟩
theorem p_X9_40_27 : xFldP RX9 40 27 19 (.array (.array .int)) true := ⟨RX9, TX9, 46, "LeaningMarketModel", tyX9, rfl, by decide, by decide, in_X9, Or.inl q1982, Or.inl rfl, tyX9_ok, nmX9, rfl, (fun _ => rfl), rfl⟩
theorem f_X9_43_27 : xFld RX9 43 27 20 := ⟨RX9, TX9, 46, "LeaningMarketModel", rfl, by decide, by decide, in_X9, Or.inl q1983, Or.inl rfl⟩
theorem p_X9_43_27 : xFldP RX9 43 27 20 (.array (.array .int)) true := ⟨RX9, TX9, 46, "LeaningMarketModel", tyX9, rfl, by decide, by decide, in_X9, Or.inl q1983, Or.inl rfl, tyX9_ok, nmX9, rfl, (fun _ => rfl), rfl⟩
theorem f_X9_46_27 : xFld RX9 46 27 21 := ⟨RX9, TX9, 46, "LeaningMarketModel", rfl, by decide, by decide, in_X9, Or.inl q1984, Or.inl rfl⟩
theorem p_X9_46_27 : xFldP RX9 46 27 21 (.array (.array .int)) true := ⟨RX9, TX9, 46, "LeaningMarketModel", tyX9, rfl, by decide, by decide, in_X9, Or.inl q1984, Or.inl rfl, tyX9_ok, nmX9, rfl, (fun _ => rfl), rfl⟩
theorem f_X9_49_27 : xFld RX9 49 27 22 := ⟨RX9, TX9, 46, "LeaningMarketModel", rfl, by decide, by decide, in_X9, Or.inl q1985, Or.inl rfl⟩
theorem p_X9_49_27 : xFldP RX9 49 27 22 (.array (.array .int)) true := ⟨RX9, TX9, 46, "LeaningMarketModel", tyX9, rfl, by decide, by decide, in_X9, Or.inl q1985, Or.inl rfl, tyX9_ok, nmX9, rfl, (fun _ => rfl), rfl⟩
theorem f_X9_52_27 : xFld RX9 52 27 23 := ⟨RX9, TX9, 46, "LeaningMarketModel", rfl, by decide, by decide, in_X9, Or.inl q1986, Or.inl rfl⟩
theorem p_X9_52_27 : xFldP RX9 52 27 23 (.array .int) true := ⟨RX9, TX9, 46, "LeaningMarketModel", tyX9, rfl, by decide, by decide, in_X9, Or.inl q1986, Or.inl rfl, tyX9_ok, nmX9, rfl, (fun _ => rfl), rfl⟩
theorem f_X9_55_27 : xFld RX9 55 27 24 := ⟨RX9, TX9, 46, "LeaningMarketModel", rfl, by decide, by decide, in_X9, Or.inl q1987, Or.inl rfl⟩
theorem p_X9_55_27 : xFldP RX9 55 27 24 (.array .int) true := ⟨RX9, TX9, 46, "LeaningMarketModel", tyX9, rfl, by decide, by decide, in_X9, Or.inl q1987, Or.inl rfl, tyX9_ok, nmX9, rfl, (fun _ => rfl), rfl⟩
theorem f_X9_58_27 : xFld RX9 58 27 25 := ⟨RX9, TX9, 46, "LeaningMarketModel", rfl, by decide, by decide, in_X9, Or.inl q1988, Or.inl rfl⟩
theorem p_X9_58_27 : xFldP RX9 58 27 25 (.array (.array .int)) true := ⟨RX9, TX9, 46, "LeaningMarketModel", tyX9, rfl, by decide, by decide, in_X9, Or.inl q1988, Or.inl rfl, tyX9_ok, nmX9, rfl, (fun _ => rfl), rfl⟩
theorem f_X9_61_27 : xFld RX9 61 27 27 := ⟨RX9, TX9, 46, "LeaningMarketModel", rfl, by decide, by decide, in_X9, Or.inl q1990, Or.inl rfl⟩
theorem p_X9_61_27 : xFldP RX9 61 27 27 (.array .int) true := ⟨RX9, TX9, 46, "LeaningMarketModel", tyX9, rfl, by decide, by decide, in_X9, Or.inl q1990, Or.inl rfl, tyX9_ok, nmX9, rfl, (fun _ => rfl), rfl⟩
theorem f_X9_64_27 : xFld RX9 64 27 28 := ⟨RX9, TX9, 46, "LeaningMarketModel", rfl, by decide, by decide, in_X9, Or.inl q1991, Or.inl rfl⟩
theorem p_X9_64_27 : xFldP RX9 64 27 28 (.array .int) true := ⟨RX9, TX9, 46, "LeaningMarketModel", tyX9, rfl, by decide, by decide, in_X9, Or.inl q1991, Or.inl rfl, tyX9_ok, nmX9, rfl, (fun _ => rfl), rfl⟩
theorem f_X9_67_27 : xFld RX9 67 27 29 := ⟨RX9, TX9, 46, "LeaningMarketModel", rfl, by decide, by decide, in_X9, Or.inl q1992, Or.inl rfl⟩
theorem p_X9_67_27 : xFldP RX9 67 27 29 (.array .int) true := ⟨RX9, TX9, 46, "LeaningMarketModel", tyX9, rfl, by decide, by decide, in_X9, Or.inl q1992, Or.inl rfl, tyX9_ok, nmX9, rfl, (fun _ => rfl), rfl⟩
theorem f_X9_70_27 : xFld RX9 70 27 30 := ⟨RX9, TX9, 46, "LeaningMarketModel", rfl, by decide, by decide, in_X9, Or.inl q1993, Or.inl rfl⟩
theorem p_X9_70_27 : xFldP RX9 70 27 30 (.array (.array .int)) true := ⟨RX9, TX9, 46, "LeaningMarketModel", tyX9, rfl, by decide, by decide, in_X9, Or.inl q1993, Or.inl rfl, tyX9_ok, nmX9, rfl, (fun _ => rfl), rfl⟩
theorem f_X9_73_27 : xFld RX9 73 27 31 := ⟨RX9, TX9, 46, "LeaningMarketModel", rfl, by decide, by decide, in_X9, Or.inl q1994, Or.inl rfl⟩
theorem p_X9_73_27 : xFldP RX9 73 27 31 (.array (.array .int)) true := ⟨RX9, TX9, 46, "LeaningMarketModel", tyX9, rfl, by decide, by decide, in_X9, Or.inl q1994, Or.inl rfl, tyX9_ok, nmX9, rfl, (fun _ => rfl), rfl⟩
theorem f_X9_76_27 : xFld RX9 76 27 41 := ⟨RX9, TX9, 46, "LeaningMarketModel", rfl, by decide, by decide, in_X9, Or.inl q2004, Or.inl rfl⟩
theorem p_X9_76_27 : xFldP RX9 76 27 41 (.array .boolean) true := ⟨RX9, TX9, 46, "LeaningMarketModel", tyX9, rfl, by decide, by decide, in_X9, Or.inl q2004, Or.inl rfl, tyX9_ok, nmX9, rfl, (fun _ => rfl), rfl⟩
theorem f_X9_80_27 : xFld RX9 80 27 43 := ⟨RX9, TX9, 46, "LeaningMarketModel", rfl, by decide, by decide, in_X9, Or.inl q2006, Or.inl rfl⟩
theorem p_X9_80_27 : xFldP RX9 80 27 43 (.array .int) true := ⟨RX9, TX9, 46, "LeaningMarketModel", tyX9, rfl, by decide, by decide, in_X9, Or.inl q2006, Or.inl rfl, tyX9_ok, nmX9, rfl, (fun _ => rfl), rfl⟩
theorem f_X9_83_27 : xFld RX9 83 27 44 := ⟨RX9, TX9, 46, "LeaningMarketModel", rfl, by decide, by decide, in_X9, Or.inl q2007, Or.inl rfl⟩
theorem p_X9_83_27 : xFldP RX9 83 27 44 (.array .int) true := ⟨RX9, TX9, 46, "LeaningMarketModel", tyX9, rfl, by decide, by decide, in_X9, Or.inl q2007, Or.inl rfl, tyX9_ok, nmX9, rfl, (fun _ => rfl), rfl⟩
theorem v_X9_86_27 : xLV RX9 86 m_X9_tellsNothing 27 0 := ⟨RX9, TX9, 46, rfl, by decide, Or.inl ⟨q1952, qs37, ⟨by decide, by decide⟩, rfl⟩, q1954, q123, w_X9_tellsNothing, by decide⟩
theorem v_X9_89_27 : xLV RX9 89 m_X9_beginsAnew 27 0 := ⟨RX9, TX9, 46, rfl, by decide, Or.inl ⟨q1956, qs38, ⟨by decide, by decide⟩, rfl⟩, q1958, q123, w_X9_beginsAnew, by decide⟩
theorem f_X9_92_27 : xFld RX9 92 27 0 := ⟨RX9, TX9, 46, "LeaningMarketModel", rfl, by decide, by decide, in_X9, Or.inl q1963, Or.inl rfl⟩
theorem p_X9_92_27 : xFldP RX9 92 27 0 .int false := ⟨RX9, TX9, 46, "LeaningMarketModel", tyX9, rfl, by decide, by decide, in_X9, Or.inl q1963, Or.inl rfl, tyX9_ok, nmX9, rfl, (fun h => nomatch h), rfl⟩
theorem f_X9_95_27 : xFld RX9 95 27 1 := ⟨RX9, TX9, 46, "LeaningMarketModel", rfl, by decide, by decide, in_X9, Or.inl q1964, Or.inl rfl⟩
theorem p_X9_95_27 : xFldP RX9 95 27 1 .int false := ⟨RX9, TX9, 46, "LeaningMarketModel", tyX9, rfl, by decide, by decide, in_X9, Or.inl q1964, Or.inl rfl, tyX9_ok, nmX9, rfl, (fun h => nomatch h), rfl⟩
theorem f_X9_98_27 : xFld RX9 98 27 2 := ⟨RX9, TX9, 46, "LeaningMarketModel", rfl, by decide, by decide, in_X9, Or.inl q1965, Or.inl rfl⟩
theorem p_X9_98_27 : xFldP RX9 98 27 2 .int false := ⟨RX9, TX9, 46, "LeaningMarketModel", tyX9, rfl, by decide, by decide, in_X9, Or.inl q1965, Or.inl rfl, tyX9_ok, nmX9, rfl, (fun h => nomatch h), rfl⟩
theorem f_X9_101_27 : xFld RX9 101 27 4 := ⟨RX9, TX9, 46, "LeaningMarketModel", rfl, by decide, by decide, in_X9, Or.inl q1967, Or.inl rfl⟩
theorem p_X9_101_27 : xFldP RX9 101 27 4 .int false := ⟨RX9, TX9, 46, "LeaningMarketModel", tyX9, rfl, by decide, by decide, in_X9, Or.inl q1967, Or.inl rfl, tyX9_ok, nmX9, rfl, (fun h => nomatch h), rfl⟩
theorem v_X9_104_27 : xLV RX9 104 m_X9_byteAt 27 1 := ⟨RX9, TX9, 46, rfl, by decide, Or.inl ⟨q2129, qs42, ⟨by decide, by decide⟩, rfl⟩, q2131, q123, w_X9_byteAt, by decide⟩
theorem f_X9_108_27 : xFld RX9 108 27 5 := ⟨RX9, TX9, 46, "LeaningMarketModel", rfl, by decide, by decide, in_X9, Or.inl q1968, Or.inl rfl⟩
theorem p_X9_108_27 : xFldP RX9 108 27 5 .int false := ⟨RX9, TX9, 46, "LeaningMarketModel", tyX9, rfl, by decide, by decide, in_X9, Or.inl q1968, Or.inl rfl, tyX9_ok, nmX9, rfl, (fun h => nomatch h), rfl⟩
theorem f_X9_111_27 : xFld RX9 111 27 6 := ⟨RX9, TX9, 46, "LeaningMarketModel", rfl, by decide, by decide, in_X9, Or.inl q1969, Or.inl rfl⟩
theorem p_X9_111_27 : xFldP RX9 111 27 6 .int false := ⟨RX9, TX9, 46, "LeaningMarketModel", tyX9, rfl, by decide, by decide, in_X9, Or.inl q1969, Or.inl rfl, tyX9_ok, nmX9, rfl, (fun h => nomatch h), rfl⟩
theorem v_X9_114_27 : xLV RX9 114 m_X9_blanks 27 0 := ⟨RX9, TX9, 46, rfl, by decide, Or.inl ⟨q2125, qs41, ⟨by decide, by decide⟩, rfl⟩, q2127, q123, w_X9_blanks, by decide⟩
theorem s_X9_117 : xLS RX9 117 m_X9_isDigit 1 := ⟨Or.inl q2170, q2171, q123, w_X9_isDigit, ⟨by decide, by decide⟩, rfl, by decide⟩
theorem v_X9_121_27 : xLV RX9 121 m_X9_wrong 27 2 := ⟨RX9, TX9, 46, rfl, by decide, Or.inl ⟨q2155, qs47, ⟨by decide, by decide⟩, rfl⟩, q2157, q123, w_X9_wrong, by decide⟩
theorem s_X9_126 : xLS RX9 126 m_X9_in 3 := ⟨Or.inl q2114, q2115, q123, w_X9_in, ⟨by decide, by decide⟩, rfl, by decide⟩
theorem s_X9_130 : xLS RX9 130 m_X9_isSmall 1 := ⟨Or.inl q2149, q2150, q123, w_X9_isSmall, ⟨by decide, by decide⟩, rfl, by decide⟩
theorem v_X9_133_27 : xLV RX9 133 m_X9_wordHere 27 0 := ⟨RX9, TX9, 46, rfl, by decide, Or.inl ⟨q2145, qs46, ⟨by decide, by decide⟩, rfl⟩, q2147, q123, w_X9_wordHere, by decide⟩
theorem s_X9_137 : xLS RX9 137 m_X9_six 6 := ⟨Or.inl q2152, q2153, q123, w_X9_six, ⟨by decide, by decide⟩, rfl, by decide⟩
theorem v_X9_141_27 : xLV RX9 141 m_X9_isWord 27 6 := ⟨RX9, TX9, 46, rfl, by decide, Or.inl ⟨q2141, qs45, ⟨by decide, by decide⟩, rfl⟩, q2143, q123, w_X9_isWord, by decide⟩
theorem v_X9_145_27 : xLV RX9 145 m_X9_skipWord 27 0 := ⟨RX9, TX9, 46, rfl, by decide, Or.inl ⟨q2162, qs48, ⟨by decide, by decide⟩, rfl⟩, q2164, q123, w_X9_skipWord, by decide⟩
theorem f_X9_148_27 : xFld RX9 148 27 7 := ⟨RX9, TX9, 46, "LeaningMarketModel", rfl, by decide, by decide, in_X9, Or.inl q1970, Or.inl rfl⟩
theorem p_X9_148_27 : xFldP RX9 148 27 7 .int false := ⟨RX9, TX9, 46, "LeaningMarketModel", tyX9, rfl, by decide, by decide, in_X9, Or.inl q1970, Or.inl rfl, tyX9_ok, nmX9, rfl, (fun h => nomatch h), rfl⟩
theorem f_X9_151_27 : xFld RX9 151 27 8 := ⟨RX9, TX9, 46, "LeaningMarketModel", rfl, by decide, by decide, in_X9, Or.inl q1971, Or.inl rfl⟩
theorem p_X9_151_27 : xFldP RX9 151 27 8 .int false := ⟨RX9, TX9, 46, "LeaningMarketModel", tyX9, rfl, by decide, by decide, in_X9, Or.inl q1971, Or.inl rfl, tyX9_ok, nmX9, rfl, (fun h => nomatch h), rfl⟩
theorem v_X9_154_27 : xLV RX9 154 m_X9_number 27 2 := ⟨RX9, TX9, 46, rfl, by decide, Or.inl ⟨q2166, qs49, ⟨by decide, by decide⟩, rfl⟩, q2168, q123, w_X9_number, by decide⟩
theorem v_X9_158_27 : xLV RX9 158 m_X9_kindHere 27 0 := ⟨RX9, TX9, 46, rfl, by decide, Or.inl ⟨q2137, qs44, ⟨by decide, by decide⟩, rfl⟩, q2139, q123, w_X9_kindHere, by decide⟩
theorem s_X9_161 : xLS RX9 161 m_X9_mostOf 1 := ⟨Or.inl q2159, q2160, q123, w_X9_mostOf, ⟨by decide, by decide⟩, rfl, by decide⟩
theorem v_X9_164_27 : xLV RX9 164 m_X9_otherThing 27 2 := ⟨RX9, TX9, 46, rfl, by decide, Or.inl ⟨q2174, qs50, ⟨by decide, by decide⟩, rfl⟩, q2176, q123, w_X9_otherThing, by decide⟩
theorem v_X9_167_27 : xLV RX9 167 m_X9_sign 27 1 := ⟨RX9, TX9, 46, rfl, by decide, Or.inl ⟨q2178, qs51, ⟨by decide, by decide⟩, rfl⟩, q2180, q123, w_X9_sign, by decide⟩
theorem v_X9_171_27 : xLV RX9 171 m_X9_bad 27 3 := ⟨RX9, TX9, 46, rfl, by decide, Or.inl ⟨q2117, qs39, ⟨by decide, by decide⟩, rfl⟩, q2119, q123, w_X9_bad, by decide⟩
theorem v_X9_175_27 : xLV RX9 175 m_X9_starts 27 1 := ⟨RX9, TX9, 46, rfl, by decide, Or.inl ⟨q2121, qs40, ⟨by decide, by decide⟩, rfl⟩, q2123, q123, w_X9_starts, by decide⟩
theorem v_X9_178_27 : xLV RX9 178 m_X9_clause 27 0 := ⟨RX9, TX9, 46, rfl, by decide, Or.inl ⟨q2133, qs43, ⟨by decide, by decide⟩, rfl⟩, q2135, q123, w_X9_clause, by decide⟩
theorem v_X9_181_27 : xLV RX9 181 m_X9_ends 27 0 := ⟨RX9, TX9, 46, rfl, by decide, Or.inl ⟨q2182, qs52, ⟨by decide, by decide⟩, rfl⟩, q2184, q123, w_X9_ends, by decide⟩
theorem s_X9_184 : xLS RX9 184 m_X9_lays 3 := ⟨Or.inl q1960, q1961, q123, w_X9_lays, ⟨by decide, by decide⟩, rfl, by decide⟩
theorem f_X9_188_27 : xFld RX9 188 27 17 := ⟨RX9, TX9, 46, "LeaningMarketModel", rfl, by decide, by decide, in_X9, Or.inl q1980, Or.inl rfl⟩
theorem p_X9_188_27 : xFldP RX9 188 27 17 .int false := ⟨RX9, TX9, 46, "LeaningMarketModel", tyX9, rfl, by decide, by decide, in_X9, Or.inl q1980, Or.inl rfl, tyX9_ok, nmX9, rfl, (fun h => nomatch h), rfl⟩
theorem f_X9_191_27 : xFld RX9 191 27 32 := ⟨RX9, TX9, 46, "LeaningMarketModel", rfl, by decide, by decide, in_X9, Or.inl q1995, Or.inl rfl⟩
theorem p_X9_191_27 : xFldP RX9 191 27 32 .int false := ⟨RX9, TX9, 46, "LeaningMarketModel", tyX9, rfl, by decide, by decide, in_X9, Or.inl q1995, Or.inl rfl, tyX9_ok, nmX9, rfl, (fun h => nomatch h), rfl⟩
theorem f_X9_194_27 : xFld RX9 194 27 33 := ⟨RX9, TX9, 46, "LeaningMarketModel", rfl, by decide, by decide, in_X9, Or.inl q1996, Or.inl rfl⟩
theorem p_X9_194_27 : xFldP RX9 194 27 33 .int false := ⟨RX9, TX9, 46, "LeaningMarketModel", tyX9, rfl, by decide, by decide, in_X9, Or.inl q1996, Or.inl rfl, tyX9_ok, nmX9, rfl, (fun h => nomatch h), rfl⟩
theorem f_X9_197_27 : xFld RX9 197 27 34 := ⟨RX9, TX9, 46, "LeaningMarketModel", rfl, by decide, by decide, in_X9, Or.inl q1997, Or.inl rfl⟩
theorem p_X9_197_27 : xFldP RX9 197 27 34 .int false := ⟨RX9, TX9, 46, "LeaningMarketModel", tyX9, rfl, by decide, by decide, in_X9, Or.inl q1997, Or.inl rfl, tyX9_ok, nmX9, rfl, (fun h => nomatch h), rfl⟩
theorem f_X9_200_27 : xFld RX9 200 27 35 := ⟨RX9, TX9, 46, "LeaningMarketModel", rfl, by decide, by decide, in_X9, Or.inl q1998, Or.inl rfl⟩
theorem p_X9_200_27 : xFldP RX9 200 27 35 .int false := ⟨RX9, TX9, 46, "LeaningMarketModel", tyX9, rfl, by decide, by decide, in_X9, Or.inl q1998, Or.inl rfl, tyX9_ok, nmX9, rfl, (fun h => nomatch h), rfl⟩
theorem f_X9_203_27 : xFld RX9 203 27 18 := ⟨RX9, TX9, 46, "LeaningMarketModel", rfl, by decide, by decide, in_X9, Or.inl q1981, Or.inl rfl⟩
theorem p_X9_203_27 : xFldP RX9 203 27 18 .int false := ⟨RX9, TX9, 46, "LeaningMarketModel", tyX9, rfl, by decide, by decide, in_X9, Or.inl q1981, Or.inl rfl, tyX9_ok, nmX9, rfl, (fun h => nomatch h), rfl⟩
theorem v_X9_206_27 : xLV RX9 206 m_X9_product 27 0 := ⟨RX9, TX9, 46, rfl, by decide, Or.inl ⟨q2194, qs54, ⟨by decide, by decide⟩, rfl⟩, q2196, q123, w_X9_product, by decide⟩
theorem v_X9_209_27 : xLV RX9 209 m_X9_takesSign 27 1 := ⟨RX9, TX9, 46, rfl, by decide, Or.inl ⟨q2222, qs61, ⟨by decide, by decide⟩, rfl⟩, q2224, q123, w_X9_takesSign, by decide⟩
theorem v_X9_212_27 : xLV RX9 212 m_X9_notes 27 2 := ⟨RX9, TX9, 46, rfl, by decide, Or.inl ⟨q2206, qs57, ⟨by decide, by decide⟩, rfl⟩, q2208, q123, w_X9_notes, by decide⟩
theorem v_X9_215_27 : xLV RX9 215 m_X9_one 27 0 := ⟨RX9, TX9, 46, rfl, by decide, Or.inl ⟨q2198, qs55, ⟨by decide, by decide⟩, rfl⟩, q2200, q123, w_X9_one, by decide⟩
theorem v_X9_218_27 : xLV RX9 218 m_X9_takes 27 6 := ⟨RX9, TX9, 46, rfl, by decide, Or.inl ⟨q2214, qs59, ⟨by decide, by decide⟩, rfl⟩, q2216, q123, w_X9_takes, by decide⟩
theorem v_X9_221_27 : xLV RX9 221 m_X9_isSeven 27 2 := ⟨RX9, TX9, 46, rfl, by decide, Or.inl ⟨q2218, qs60, ⟨by decide, by decide⟩, rfl⟩, q2220, q123, w_X9_isSeven, by decide⟩
theorem v_X9_225_27 : xLV RX9 225 m_X9_opensOne 27 0 := ⟨RX9, TX9, 46, rfl, by decide, Or.inl ⟨q2202, qs56, ⟨by decide, by decide⟩, rfl⟩, q2204, q123, w_X9_opensOne, by decide⟩
theorem v_X9_229_27 : xLV RX9 229 m_X9_sum 27 0 := ⟨RX9, TX9, 46, rfl, by decide, Or.inl ⟨q2190, qs53, ⟨by decide, by decide⟩, rfl⟩, q2192, q123, w_X9_sum, by decide⟩
theorem v_X9_232_27 : xLV RX9 232 m_X9_knownHere 27 0 := ⟨RX9, TX9, 46, rfl, by decide, Or.inl ⟨q2210, qs58, ⟨by decide, by decide⟩, rfl⟩, q2212, q123, w_X9_knownHere, by decide⟩
theorem s_X9_235 : xLS RX9 235 m_X9_less 2 := ⟨Or.inl q2280, q2281, q123, w_X9_less, ⟨by decide, by decide⟩, rfl, by decide⟩
theorem s_X9_238 : xLS RX9 238 m_X9_more 2 := ⟨Or.inl q2308, q2309, q123, w_X9_more, ⟨by decide, by decide⟩, rfl, by decide⟩
theorem s_X9_241 : xLS RX9 241 m_X9_by 3 := ⟨Or.inl q2305, q2306, q123, w_X9_by, ⟨by decide, by decide⟩, rfl, by decide⟩
theorem v_X9_244_27 : xLV RX9 244 m_X9_stepHere 27 0 := ⟨RX9, TX9, 46, rfl, by decide, Or.inl ⟨q2242, qs63, ⟨by decide, by decide⟩, rfl⟩, q2244, q123, w_X9_stepHere, by decide⟩
theorem f_X9_247_27 : xFld RX9 247 27 26 := ⟨RX9, TX9, 46, "LeaningMarketModel", rfl, by decide, by decide, in_X9, Or.inl q1989, Or.inl rfl⟩
theorem p_X9_247_27 : xFldP RX9 247 27 26 .int false := ⟨RX9, TX9, 46, "LeaningMarketModel", tyX9, rfl, by decide, by decide, in_X9, Or.inl q1989, Or.inl rfl, tyX9_ok, nmX9, rfl, (fun h => nomatch h), rfl⟩
theorem v_X9_250_27 : xLV RX9 250 m_X9_readsStep 27 0 := ⟨RX9, TX9, 46, rfl, by decide, Or.inl ⟨q2238, qs62, ⟨by decide, by decide⟩, rfl⟩, q2240, q123, w_X9_readsStep, by decide⟩
theorem v_X9_253_27 : xLV RX9 253 m_X9_byLaw 27 0 := ⟨RX9, TX9, 46, rfl, by decide, Or.inl ⟨q2301, qs71, ⟨by decide, by decide⟩, rfl⟩, q2303, q123, w_X9_byLaw, by decide⟩
theorem s_X9_256 : xLS RX9 256 m_X9_criesOf 2 := ⟨Or.inl q2291, q2292, q123, w_X9_criesOf, ⟨by decide, by decide⟩, rfl, by decide⟩
theorem s_X9_260 : xLS RX9 260 m_X9_ones 1 := ⟨Or.inl q2294, q2295, q123, w_X9_ones, ⟨by decide, by decide⟩, rfl, by decide⟩
theorem v_X9_263_27 : xLV RX9 263 m_X9_wearBy 27 7 := ⟨RX9, TX9, 46, rfl, by decide, Or.inl ⟨q2297, qs70, ⟨by decide, by decide⟩, rfl⟩, q2299, q123, w_X9_wearBy, by decide⟩
theorem s_X9_267 : xLS RX9 267 m_X9_standsBy 4 := ⟨Or.inl q2265, q2266, q123, w_X9_standsBy, ⟨by decide, by decide⟩, rfl, by decide⟩
theorem v_X9_271_27 : xLV RX9 271 m_X9_standsIn 27 5 := ⟨RX9, TX9, 46, rfl, by decide, Or.inl ⟨q2261, qs67, ⟨by decide, by decide⟩, rfl⟩, q2263, q123, w_X9_standsIn, by decide⟩
theorem s_X9_275 : xLS RX9 275 m_X9_isCry 5 := ⟨Or.inl q2268, q2269, q123, w_X9_isCry, ⟨by decide, by decide⟩, rfl, by decide⟩
theorem s_X9_279 : xLS RX9 279 m_X9_cries 5 := ⟨Or.inl q2271, q2272, q123, w_X9_cries, ⟨by decide, by decide⟩, rfl, by decide⟩
theorem v_X9_283_27 : xLV RX9 283 m_X9_wearOf 27 2 := ⟨RX9, TX9, 46, rfl, by decide, Or.inl ⟨q2287, qs69, ⟨by decide, by decide⟩, rfl⟩, q2289, q123, w_X9_wearOf, by decide⟩
theorem v_X9_286_27 : xLV RX9 286 m_X9_weighs 27 5 := ⟨RX9, TX9, 46, rfl, by decide, Or.inl ⟨q2257, qs66, ⟨by decide, by decide⟩, rfl⟩, q2259, q123, w_X9_weighs, by decide⟩
theorem s_X9_289 : xLS RX9 289 m_X9_tips 2 := ⟨Or.inl q2274, q2275, q123, w_X9_tips, ⟨by decide, by decide⟩, rfl, by decide⟩
theorem s_X9_293 : xLS RX9 293 m_X9_feeds 3 := ⟨Or.inl q2277, q2278, q123, w_X9_feeds, ⟨by decide, by decide⟩, rfl, by decide⟩
theorem v_X9_297_27 : xLV RX9 297 m_X9_dayEnds 27 1 := ⟨RX9, TX9, 46, rfl, by decide, Or.inl ⟨q2283, qs68, ⟨by decide, by decide⟩, rfl⟩, q2285, q123, w_X9_dayEnds, by decide⟩
theorem f_X9_301_27 : xFld RX9 301 27 37 := ⟨RX9, TX9, 46, "LeaningMarketModel", rfl, by decide, by decide, in_X9, Or.inl q2000, Or.inl rfl⟩
theorem p_X9_301_27 : xFldP RX9 301 27 37 .int false := ⟨RX9, TX9, 46, "LeaningMarketModel", tyX9, rfl, by decide, by decide, in_X9, Or.inl q2000, Or.inl rfl, tyX9_ok, nmX9, rfl, (fun h => nomatch h), rfl⟩
theorem v_X9_304_27 : xLV RX9 304 m_X9_goes 27 2 := ⟨RX9, TX9, 46, rfl, by decide, Or.inl ⟨q2249, qs64, ⟨by decide, by decide⟩, rfl⟩, q2251, q123, w_X9_goes, by decide⟩
theorem v_X9_307_27 : xLV RX9 307 m_X9_does 27 2 := ⟨RX9, TX9, 46, rfl, by decide, Or.inl ⟨q2253, qs65, ⟨by decide, by decide⟩, rfl⟩, q2255, q123, w_X9_does, by decide⟩
theorem f_X9_311_27 : xFld RX9 311 27 38 := ⟨RX9, TX9, 46, "LeaningMarketModel", rfl, by decide, by decide, in_X9, Or.inl q2001, Or.inl rfl⟩
theorem p_X9_311_27 : xFldP RX9 311 27 38 .int false := ⟨RX9, TX9, 46, "LeaningMarketModel", tyX9, rfl, by decide, by decide, in_X9, Or.inl q2001, Or.inl rfl, tyX9_ok, nmX9, rfl, (fun h => nomatch h), rfl⟩
theorem s_X9_314 : xLS RX9 314 m_X9_copies 2 := ⟨Or.inl q2246, q2247, q123, w_X9_copies, ⟨by decide, by decide⟩, rfl, by decide⟩
theorem v_X9_318_27 : xLV RX9 318 m_X9_weightIn 27 1 := ⟨RX9, TX9, 46, rfl, by decide, Or.inl ⟨q2319, qs72, ⟨by decide, by decide⟩, rfl⟩, q2321, q123, w_X9_weightIn, by decide⟩
theorem s_X9_322 : xLS RX9 322 m_X9_notSo 1 := ⟨Or.inl q2323, q2324, q123, w_X9_notSo, ⟨by decide, by decide⟩, rfl, by decide⟩
theorem v_X9_325_27 : xLV RX9 325 m_X9_criedIn 27 1 := ⟨RX9, TX9, 46, rfl, by decide, Or.inl ⟨q2326, qs73, ⟨by decide, by decide⟩, rfl⟩, q2328, q123, w_X9_criedIn, by decide⟩
theorem v_X9_328_27 : xLV RX9 328 m_X9_isThing 27 1 := ⟨RX9, TX9, 46, rfl, by decide, Or.inl ⟨q2334, qs74, ⟨by decide, by decide⟩, rfl⟩, q2336, q123, w_X9_isThing, by decide⟩
theorem v_X9_331_27 : xLV RX9 331 m_X9_heaviestIn 27 1 := ⟨RX9, TX9, 46, rfl, by decide, Or.inl ⟨q2354, qs75, ⟨by decide, by decide⟩, rfl⟩, q2356, q123, w_X9_heaviestIn, by decide⟩
theorem f_X9_334_27 : xFld RX9 334 27 40 := ⟨RX9, TX9, 46, "LeaningMarketModel", rfl, by decide, by decide, in_X9, Or.inl q2003, Or.inl rfl⟩
theorem p_X9_334_27 : xFldP RX9 334 27 40 .long false := ⟨RX9, TX9, 46, "LeaningMarketModel", tyX9, rfl, by decide, by decide, in_X9, Or.inl q2003, Or.inl rfl, tyX9_ok, nmX9, rfl, (fun h => nomatch h), rfl⟩
theorem f_X9_338_27 : xFld RX9 338 27 39 := ⟨RX9, TX9, 46, "LeaningMarketModel", rfl, by decide, by decide, in_X9, Or.inl q2002, Or.inl rfl⟩
theorem p_X9_338_27 : xFldP RX9 338 27 39 .long false := ⟨RX9, TX9, 46, "LeaningMarketModel", tyX9, rfl, by decide, by decide, in_X9, Or.inl q2002, Or.inl rfl, tyX9_ok, nmX9, rfl, (fun h => nomatch h), rfl⟩
theorem v_X9_341_27 : xLV RX9 341 m_X9_keeps 27 2 := ⟨RX9, TX9, 46, rfl, by decide, Or.inl ⟨q2370, qs78, ⟨by decide, by decide⟩, rfl⟩, q2372, q123, w_X9_keeps, by decide⟩
theorem s_X9_345 : xLS RX9 345 m_X9_has 2 := ⟨Or.inl q2374, q2375, q123, w_X9_has, ⟨by decide, by decide⟩, rfl, by decide⟩
theorem v_X9_348_27 : xLV RX9 348 m_X9_chains 27 5 := ⟨RX9, TX9, 46, rfl, by decide, Or.inl ⟨q2366, qs77, ⟨by decide, by decide⟩, rfl⟩, q2368, q123, w_X9_chains, by decide⟩
theorem v_X9_352_27 : xLV RX9 352 m_X9_rings 27 6 := ⟨RX9, TX9, 46, rfl, by decide, Or.inl ⟨q2388, qs80, ⟨by decide, by decide⟩, rfl⟩, q2390, q123, w_X9_rings, by decide⟩
theorem f_X9_356_27 : xFld RX9 356 27 42 := ⟨RX9, TX9, 46, "LeaningMarketModel", rfl, by decide, by decide, in_X9, Or.inl q2005, Or.inl rfl⟩
theorem p_X9_356_27 : xFldP RX9 356 27 42 .int false := ⟨RX9, TX9, 46, "LeaningMarketModel", tyX9, rfl, by decide, by decide, in_X9, Or.inl q2005, Or.inl rfl, tyX9_ok, nmX9, rfl, (fun h => nomatch h), rfl⟩
theorem v_X9_359_27 : xLV RX9 359 m_X9_worths 27 2 := ⟨RX9, TX9, 46, rfl, by decide, Or.inl ⟨q2362, qs76, ⟨by decide, by decide⟩, rfl⟩, q2364, q123, w_X9_worths, by decide⟩
theorem s_X9_362 : xLS RX9 362 m_X9_partOf 3 := ⟨Or.inl q2377, q2378, q123, w_X9_partOf, ⟨by decide, by decide⟩, rfl, by decide⟩
theorem v_X9_366_27 : xLV RX9 366 m_X9_allRings 27 0 := ⟨RX9, TX9, 46, rfl, by decide, Or.inl ⟨q2384, qs79, ⟨by decide, by decide⟩, rfl⟩, q2386, q123, w_X9_allRings, by decide⟩
theorem v_X9_369_27 : xLV RX9 369 m_X9_isMended 27 1 := ⟨RX9, TX9, 46, rfl, by decide, Or.inl ⟨q2400, qs81, ⟨by decide, by decide⟩, rfl⟩, q2402, q123, w_X9_isMended, by decide⟩
theorem v_X9_372_27 : xLV RX9 372 m_X9_laysFrom 27 4 := ⟨RX9, TX9, 46, rfl, by decide, Or.inl ⟨q2424, qs85, ⟨by decide, by decide⟩, rfl⟩, q2426, q123, w_X9_laysFrom, by decide⟩
theorem v_X9_376_27 : xLV RX9 376 m_X9_everyThing 27 0 := ⟨RX9, TX9, 46, rfl, by decide, Or.inl ⟨q2416, qs83, ⟨by decide, by decide⟩, rfl⟩, q2418, q123, w_X9_everyThing, by decide⟩
theorem v_X9_379_27 : xLV RX9 379 m_X9_isSet 27 1 := ⟨RX9, TX9, 46, rfl, by decide, Or.inl ⟨q2412, qs82, ⟨by decide, by decide⟩, rfl⟩, q2414, q123, w_X9_isSet, by decide⟩
theorem v_X9_382_27 : xLV RX9 382 m_X9_laysAmounts 27 1 := ⟨RX9, TX9, 46, rfl, by decide, Or.inl ⟨q2420, qs84, ⟨by decide, by decide⟩, rfl⟩, q2422, q123, w_X9_laysAmounts, by decide⟩
theorem v_X9_385_27 : xLV RX9 385 m_X9_heavy 27 1 := ⟨RX9, TX9, 46, rfl, by decide, Or.inl ⟨q2436, qs86, ⟨by decide, by decide⟩, rfl⟩, q2438, q123, w_X9_heavy, by decide⟩
theorem v_X9_388_27 : xLV RX9 388 m_X9_isBeam 27 2 := ⟨RX9, TX9, 46, rfl, by decide, Or.inl ⟨q2444, qs87, ⟨by decide, by decide⟩, rfl⟩, q2446, q123, w_X9_isBeam, by decide⟩
theorem v_X9_391_27 : xLV RX9 391 m_X9_worstOf 27 2 := ⟨RX9, TX9, 46, rfl, by decide, Or.inl ⟨q2452, qs88, ⟨by decide, by decide⟩, rfl⟩, q2454, q123, w_X9_worstOf, by decide⟩
theorem s_X9_394 : xLS RX9 394 m_X9_hasBy 4 := ⟨Or.inl q2467, q2468, q123, w_X9_hasBy, ⟨by decide, by decide⟩, rfl, by decide⟩
theorem s_X9_397 : xLS RX9 397 m_X9_isBest 4 := ⟨Or.inl q2464, q2465, q123, w_X9_isBest, ⟨by decide, by decide⟩, rfl, by decide⟩
theorem v_X9_401_27 : xLV RX9 401 m_X9_givenBy 27 2 := ⟨RX9, TX9, 46, rfl, by decide, Or.inl ⟨q2478, qs89, ⟨by decide, by decide⟩, rfl⟩, q2480, q123, w_X9_givenBy, by decide⟩
theorem f_X9_404_27 : xFld RX9 404 27 45 := ⟨RX9, TX9, 46, "LeaningMarketModel", rfl, by decide, by decide, in_X9, Or.inl q2008, Or.inl rfl⟩
theorem p_X9_404_27 : xFldP RX9 404 27 45 .int false := ⟨RX9, TX9, 46, "LeaningMarketModel", tyX9, rfl, by decide, by decide, in_X9, Or.inl q2008, Or.inl rfl, tyX9_ok, nmX9, rfl, (fun h => nomatch h), rfl⟩
theorem v_X9_408_27 : xLV RX9 408 m_X9_draw 27 1 := ⟨RX9, TX9, 46, rfl, by decide, Or.inl ⟨q2505, qs91, ⟨by decide, by decide⟩, rfl⟩, q2507, q123, w_X9_draw, by decide⟩
theorem s_X9_411 : xLS RX9 411 m_X9_isFair 2 := ⟨Or.inl q2498, q2499, q123, w_X9_isFair, ⟨by decide, by decide⟩, rfl, by decide⟩
theorem v_X9_414_27 : xLV RX9 414 m_X9_fairBy 27 3 := ⟨RX9, TX9, 46, rfl, by decide, Or.inl ⟨q2501, qs90, ⟨by decide, by decide⟩, rfl⟩, q2503, q123, w_X9_fairBy, by decide⟩
theorem f_X9_418_27 : xFld RX9 418 27 36 := ⟨RX9, TX9, 46, "LeaningMarketModel", rfl, by decide, by decide, in_X9, Or.inl q1999, Or.inl rfl⟩
theorem p_X9_418_27 : xFldP RX9 418 27 36 .int false := ⟨RX9, TX9, 46, "LeaningMarketModel", tyX9, rfl, by decide, by decide, in_X9, Or.inl q1999, Or.inl rfl, tyX9_ok, nmX9, rfl, (fun h => nomatch h), rfl⟩
theorem v_X9_421_27 : xLV RX9 421 m_X9_puts 27 3 := ⟨RX9, TX9, 46, rfl, by decide, Or.inl ⟨q2522, qs93, ⟨by decide, by decide⟩, rfl⟩, q2524, q123, w_X9_puts, by decide⟩
theorem v_X9_425_27 : xLV RX9 425 m_X9_putsAll 27 2 := ⟨RX9, TX9, 46, rfl, by decide, Or.inl ⟨q2518, qs92, ⟨by decide, by decide⟩, rfl⟩, q2520, q123, w_X9_putsAll, by decide⟩
