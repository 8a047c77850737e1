/-! THE MODEL: its object at m, its arrays behind it (printed by gen_mo.py) -/
set_option maxRecDepth 100000
noncomputable def moL : List (Nat × Nat × Nat) := [(62, 1501, 1000), (70, 1502, 12), (71, 3501, 32), (72, 3502, 10), (73, 1503, 20), (74, 1504, 20), (75, 1505, 20), (76, 1506, 20), (77, 1507, 20), (78, 1508, 20), (79, 1509, 20), (80, 1510, 10), (81, 1511, 10), (82, 1512, 10), (83, 1513, 12), (84, 1514, 12), (85, 1515, 80), (86, 1516, 8), (87, 1517, 8), (88, 1518, 8), (89, 1519, 4), (90, 1520, 4), (91, 1521, 2000), (94, 1522, 7), (95, 2501, 7), (96, 1523, 7), (97, 1524, 7), (98, 1525, 7), (99, 1526, 7), (100, 1527, 7), (101, 1528, 7), (102, 1529, 7), (103, 1530, 7), (104, 1531, 7), (105, 1532, 20), (107, 1533, 256), (108, 1534, 256), (109, 1535, 256), (110, 2502, 256), (111, 1536, 8), (112, 1537, 8), (113, 1538, 81), (114, 1539, 6), (115, 1540, 240), (116, 1541, 240), (117, 1542, 240), (118, 1543, 5), (119, 1544, 5), (120, 1545, 5), (121, 1546, 60), (122, 1547, 60), (123, 2503, 60), (124, 1548, 15), (125, 1549, 15), (126, 1550, 60), (127, 1551, 240), (128, 2504, 4), (134, 1552, 80), (135, 1553, 80), (136, 1554, 80), (138, 1555, 30), (140, 1556, 59100), (141, 1557, 32768), (142, 1558, 10), (143, 1559, 4), (144, 1560, 4)]
def MO (h : AH) (m : Nat) : Prop := Tg h m = 10 ∧ ∀ i e, moL[i]? = some e → Fr h e.1 m = some (m + (i + 1)) ∧ Tg h (m + (i + 1)) = e.2.1 ∧ An h (m + (i + 1)) = e.2.2
section
variable {h : AH} {m : Nat}
theorem mo_0 (hm : MO h m) : Tg h m = 10 := hm.1
theorem mo_tape (hm : MO h m) : Fr h 62 m = some (m + 1) := (hm.2 0 _ rfl).1
theorem mt_tape (hm : MO h m) : Tg h (m + 1) = 1501 := (hm.2 0 _ rfl).2.1
theorem ml_tape (hm : MO h m) : An h (m + 1) = 1000 := (hm.2 0 _ rfl).2.2
theorem mo_orchard (hm : MO h m) : Fr h 70 m = some (m + 2) := (hm.2 1 _ rfl).1
theorem mt_orchard (hm : MO h m) : Tg h (m + 2) = 1502 := (hm.2 1 _ rfl).2.1
theorem ml_orchard (hm : MO h m) : An h (m + 2) = 12 := (hm.2 1 _ rfl).2.2
theorem mo_soundName (hm : MO h m) : Fr h 71 m = some (m + 3) := (hm.2 2 _ rfl).1
theorem mt_soundName (hm : MO h m) : Tg h (m + 3) = 3501 := (hm.2 2 _ rfl).2.1
theorem ml_soundName (hm : MO h m) : An h (m + 3) = 32 := (hm.2 2 _ rfl).2.2
theorem mo_personName (hm : MO h m) : Fr h 72 m = some (m + 4) := (hm.2 3 _ rfl).1
theorem mt_personName (hm : MO h m) : Tg h (m + 4) = 3502 := (hm.2 3 _ rfl).2.1
theorem ml_personName (hm : MO h m) : An h (m + 4) = 10 := (hm.2 3 _ rfl).2.2
theorem mo_soundTold (hm : MO h m) : Fr h 73 m = some (m + 5) := (hm.2 4 _ rfl).1
theorem mt_soundTold (hm : MO h m) : Tg h (m + 5) = 1503 := (hm.2 4 _ rfl).2.1
theorem ml_soundTold (hm : MO h m) : An h (m + 5) = 20 := (hm.2 4 _ rfl).2.2
theorem mo_sort (hm : MO h m) : Fr h 74 m = some (m + 6) := (hm.2 5 _ rfl).1
theorem mt_sort (hm : MO h m) : Tg h (m + 6) = 1504 := (hm.2 5 _ rfl).2.1
theorem ml_sort (hm : MO h m) : An h (m + 6) = 20 := (hm.2 5 _ rfl).2.2
theorem mo_place0 (hm : MO h m) : Fr h 75 m = some (m + 7) := (hm.2 6 _ rfl).1
theorem mt_place0 (hm : MO h m) : Tg h (m + 7) = 1505 := (hm.2 6 _ rfl).2.1
theorem ml_place0 (hm : MO h m) : An h (m + 7) = 20 := (hm.2 6 _ rfl).2.2
theorem mo_rowAt (hm : MO h m) : Fr h 76 m = some (m + 8) := (hm.2 7 _ rfl).1
theorem mt_rowAt (hm : MO h m) : Tg h (m + 8) = 1506 := (hm.2 7 _ rfl).2.1
theorem ml_rowAt (hm : MO h m) : An h (m + 8) = 20 := (hm.2 7 _ rfl).2.2
theorem mo_ripe (hm : MO h m) : Fr h 77 m = some (m + 9) := (hm.2 8 _ rfl).1
theorem mt_ripe (hm : MO h m) : Tg h (m + 9) = 1507 := (hm.2 8 _ rfl).2.1
theorem ml_ripe (hm : MO h m) : An h (m + 9) = 20 := (hm.2 8 _ rfl).2.2
theorem mo_worthTold (hm : MO h m) : Fr h 78 m = some (m + 10) := (hm.2 9 _ rfl).1
theorem mt_worthTold (hm : MO h m) : Tg h (m + 10) = 1508 := (hm.2 9 _ rfl).2.1
theorem ml_worthTold (hm : MO h m) : An h (m + 10) = 20 := (hm.2 9 _ rfl).2.2
theorem mo_twin (hm : MO h m) : Fr h 79 m = some (m + 11) := (hm.2 10 _ rfl).1
theorem mt_twin (hm : MO h m) : Tg h (m + 11) = 1509 := (hm.2 10 _ rfl).2.1
theorem ml_twin (hm : MO h m) : An h (m + 11) = 20 := (hm.2 10 _ rfl).2.2
theorem mo_lane (hm : MO h m) : Fr h 80 m = some (m + 12) := (hm.2 11 _ rfl).1
theorem mt_lane (hm : MO h m) : Tg h (m + 12) = 1510 := (hm.2 11 _ rfl).2.1
theorem ml_lane (hm : MO h m) : An h (m + 12) = 10 := (hm.2 11 _ rfl).2.2
theorem mo_loud (hm : MO h m) : Fr h 81 m = some (m + 13) := (hm.2 12 _ rfl).1
theorem mt_loud (hm : MO h m) : Tg h (m + 13) = 1511 := (hm.2 12 _ rfl).2.1
theorem ml_loud (hm : MO h m) : An h (m + 13) = 10 := (hm.2 12 _ rfl).2.2
theorem mo_mute (hm : MO h m) : Fr h 82 m = some (m + 14) := (hm.2 13 _ rfl).1
theorem mt_mute (hm : MO h m) : Tg h (m + 14) = 1512 := (hm.2 13 _ rfl).2.1
theorem ml_mute (hm : MO h m) : An h (m + 14) = 10 := (hm.2 13 _ rfl).2.2
theorem mo_strangerOf (hm : MO h m) : Fr h 83 m = some (m + 15) := (hm.2 14 _ rfl).1
theorem mt_strangerOf (hm : MO h m) : Tg h (m + 15) = 1513 := (hm.2 14 _ rfl).2.1
theorem ml_strangerOf (hm : MO h m) : An h (m + 15) = 12 := (hm.2 14 _ rfl).2.2
theorem mo_strangerBy (hm : MO h m) : Fr h 84 m = some (m + 16) := (hm.2 15 _ rfl).1
theorem mt_strangerBy (hm : MO h m) : Tg h (m + 16) = 1514 := (hm.2 15 _ rfl).2.1
theorem ml_strangerBy (hm : MO h m) : An h (m + 16) = 12 := (hm.2 15 _ rfl).2.2
theorem mo_pageOf (hm : MO h m) : Fr h 85 m = some (m + 17) := (hm.2 16 _ rfl).1
theorem mt_pageOf (hm : MO h m) : Tg h (m + 17) = 1515 := (hm.2 16 _ rfl).2.1
theorem ml_pageOf (hm : MO h m) : An h (m + 17) = 80 := (hm.2 16 _ rfl).2.2
theorem mo_pageMany (hm : MO h m) : Fr h 86 m = some (m + 18) := (hm.2 17 _ rfl).1
theorem mt_pageMany (hm : MO h m) : Tg h (m + 18) = 1516 := (hm.2 17 _ rfl).2.1
theorem ml_pageMany (hm : MO h m) : An h (m + 18) = 8 := (hm.2 17 _ rfl).2.2
theorem mo_bannA (hm : MO h m) : Fr h 87 m = some (m + 19) := (hm.2 18 _ rfl).1
theorem mt_bannA (hm : MO h m) : Tg h (m + 19) = 1517 := (hm.2 18 _ rfl).2.1
theorem ml_bannA (hm : MO h m) : An h (m + 19) = 8 := (hm.2 18 _ rfl).2.2
theorem mo_bannB (hm : MO h m) : Fr h 88 m = some (m + 20) := (hm.2 19 _ rfl).1
theorem mt_bannB (hm : MO h m) : Tg h (m + 20) = 1518 := (hm.2 19 _ rfl).2.1
theorem ml_bannB (hm : MO h m) : An h (m + 20) = 8 := (hm.2 19 _ rfl).2.2
theorem mo_lineFrom (hm : MO h m) : Fr h 89 m = some (m + 21) := (hm.2 20 _ rfl).1
theorem mt_lineFrom (hm : MO h m) : Tg h (m + 21) = 1519 := (hm.2 20 _ rfl).2.1
theorem ml_lineFrom (hm : MO h m) : An h (m + 21) = 4 := (hm.2 20 _ rfl).2.2
theorem mo_lineTo (hm : MO h m) : Fr h 90 m = some (m + 22) := (hm.2 21 _ rfl).1
theorem mt_lineTo (hm : MO h m) : Tg h (m + 22) = 1520 := (hm.2 21 _ rfl).2.1
theorem ml_lineTo (hm : MO h m) : An h (m + 22) = 4 := (hm.2 21 _ rfl).2.2
theorem mo_codes (hm : MO h m) : Fr h 91 m = some (m + 23) := (hm.2 22 _ rfl).1
theorem mt_codes (hm : MO h m) : Tg h (m + 23) = 1521 := (hm.2 22 _ rfl).2.1
theorem ml_codes (hm : MO h m) : An h (m + 23) = 2000 := (hm.2 22 _ rfl).2.2
theorem mo_opened (hm : MO h m) : Fr h 94 m = some (m + 24) := (hm.2 23 _ rfl).1
theorem mt_opened (hm : MO h m) : Tg h (m + 24) = 1522 := (hm.2 23 _ rfl).2.1
theorem ml_opened (hm : MO h m) : An h (m + 24) = 7 := (hm.2 23 _ rfl).2.2
theorem mo_compared (hm : MO h m) : Fr h 95 m = some (m + 25) := (hm.2 24 _ rfl).1
theorem mt_compared (hm : MO h m) : Tg h (m + 25) = 2501 := (hm.2 24 _ rfl).2.1
theorem ml_compared (hm : MO h m) : An h (m + 25) = 7 := (hm.2 24 _ rfl).2.2
theorem mo_kept (hm : MO h m) : Fr h 96 m = some (m + 26) := (hm.2 25 _ rfl).1
theorem mt_kept (hm : MO h m) : Tg h (m + 26) = 1523 := (hm.2 25 _ rfl).2.1
theorem ml_kept (hm : MO h m) : An h (m + 26) = 7 := (hm.2 25 _ rfl).2.2
theorem mo_keptBy (hm : MO h m) : Fr h 97 m = some (m + 27) := (hm.2 26 _ rfl).1
theorem mt_keptBy (hm : MO h m) : Tg h (m + 27) = 1524 := (hm.2 26 _ rfl).2.1
theorem ml_keptBy (hm : MO h m) : An h (m + 27) = 7 := (hm.2 26 _ rfl).2.2
theorem mo_ahead (hm : MO h m) : Fr h 98 m = some (m + 28) := (hm.2 27 _ rfl).1
theorem mt_ahead (hm : MO h m) : Tg h (m + 28) = 1525 := (hm.2 27 _ rfl).2.1
theorem ml_ahead (hm : MO h m) : An h (m + 28) = 7 := (hm.2 27 _ rfl).2.2
theorem mo_against (hm : MO h m) : Fr h 99 m = some (m + 29) := (hm.2 28 _ rfl).1
theorem mt_against (hm : MO h m) : Tg h (m + 29) = 1526 := (hm.2 28 _ rfl).2.1
theorem ml_against (hm : MO h m) : An h (m + 29) = 7 := (hm.2 28 _ rfl).2.2
theorem mo_sum (hm : MO h m) : Fr h 100 m = some (m + 30) := (hm.2 29 _ rfl).1
theorem mt_sum (hm : MO h m) : Tg h (m + 30) = 1527 := (hm.2 29 _ rfl).2.1
theorem ml_sum (hm : MO h m) : An h (m + 30) = 7 := (hm.2 29 _ rfl).2.2
theorem mo_sumBy (hm : MO h m) : Fr h 101 m = some (m + 31) := (hm.2 30 _ rfl).1
theorem mt_sumBy (hm : MO h m) : Tg h (m + 31) = 1528 := (hm.2 30 _ rfl).2.1
theorem ml_sumBy (hm : MO h m) : An h (m + 31) = 7 := (hm.2 30 _ rfl).2.2
theorem mo_term (hm : MO h m) : Fr h 102 m = some (m + 32) := (hm.2 31 _ rfl).1
theorem mt_term (hm : MO h m) : Tg h (m + 32) = 1529 := (hm.2 31 _ rfl).2.1
theorem ml_term (hm : MO h m) : An h (m + 32) = 7 := (hm.2 31 _ rfl).2.2
theorem mo_termBy (hm : MO h m) : Fr h 103 m = some (m + 33) := (hm.2 32 _ rfl).1
theorem mt_termBy (hm : MO h m) : Tg h (m + 33) = 1530 := (hm.2 32 _ rfl).2.1
theorem ml_termBy (hm : MO h m) : An h (m + 33) = 7 := (hm.2 32 _ rfl).2.2
theorem mo_byNot (hm : MO h m) : Fr h 104 m = some (m + 34) := (hm.2 33 _ rfl).1
theorem mt_byNot (hm : MO h m) : Tg h (m + 34) = 1531 := (hm.2 33 _ rfl).2.1
theorem ml_byNot (hm : MO h m) : An h (m + 34) = 7 := (hm.2 33 _ rfl).2.2
theorem mo_valueOf (hm : MO h m) : Fr h 105 m = some (m + 35) := (hm.2 34 _ rfl).1
theorem mt_valueOf (hm : MO h m) : Tg h (m + 35) = 1532 := (hm.2 34 _ rfl).2.1
theorem ml_valueOf (hm : MO h m) : An h (m + 35) = 20 := (hm.2 34 _ rfl).2.2
theorem mo_edits (hm : MO h m) : Fr h 107 m = some (m + 36) := (hm.2 35 _ rfl).1
theorem mt_edits (hm : MO h m) : Tg h (m + 36) = 1533 := (hm.2 35 _ rfl).2.1
theorem ml_edits (hm : MO h m) : An h (m + 36) = 256 := (hm.2 35 _ rfl).2.2
theorem mo_startOf (hm : MO h m) : Fr h 108 m = some (m + 37) := (hm.2 36 _ rfl).1
theorem mt_startOf (hm : MO h m) : Tg h (m + 37) = 1534 := (hm.2 36 _ rfl).2.1
theorem ml_startOf (hm : MO h m) : An h (m + 37) = 256 := (hm.2 36 _ rfl).2.2
theorem mo_rhymeOf (hm : MO h m) : Fr h 109 m = some (m + 38) := (hm.2 37 _ rfl).1
theorem mt_rhymeOf (hm : MO h m) : Tg h (m + 38) = 1535 := (hm.2 37 _ rfl).2.1
theorem ml_rhymeOf (hm : MO h m) : An h (m + 38) = 256 := (hm.2 37 _ rfl).2.2
theorem mo_isNear (hm : MO h m) : Fr h 110 m = some (m + 39) := (hm.2 38 _ rfl).1
theorem mt_isNear (hm : MO h m) : Tg h (m + 39) = 2502 := (hm.2 38 _ rfl).2.1
theorem ml_isNear (hm : MO h m) : An h (m + 39) = 256 := (hm.2 38 _ rfl).2.2
theorem mo_lettersA (hm : MO h m) : Fr h 111 m = some (m + 40) := (hm.2 39 _ rfl).1
theorem mt_lettersA (hm : MO h m) : Tg h (m + 40) = 1536 := (hm.2 39 _ rfl).2.1
theorem ml_lettersA (hm : MO h m) : An h (m + 40) = 8 := (hm.2 39 _ rfl).2.2
theorem mo_lettersB (hm : MO h m) : Fr h 112 m = some (m + 41) := (hm.2 40 _ rfl).1
theorem mt_lettersB (hm : MO h m) : Tg h (m + 41) = 1537 := (hm.2 40 _ rfl).2.1
theorem ml_lettersB (hm : MO h m) : An h (m + 41) = 8 := (hm.2 40 _ rfl).2.2
theorem mo_changes (hm : MO h m) : Fr h 113 m = some (m + 42) := (hm.2 41 _ rfl).1
theorem mt_changes (hm : MO h m) : Tg h (m + 42) = 1538 := (hm.2 41 _ rfl).2.1
theorem ml_changes (hm : MO h m) : An h (m + 42) = 81 := (hm.2 41 _ rfl).2.2
theorem mo_lines (hm : MO h m) : Fr h 114 m = some (m + 43) := (hm.2 42 _ rfl).1
theorem mt_lines (hm : MO h m) : Tg h (m + 43) = 1539 := (hm.2 42 _ rfl).2.1
theorem ml_lines (hm : MO h m) : An h (m + 43) = 6 := (hm.2 42 _ rfl).2.2
theorem mo_lineWhat (hm : MO h m) : Fr h 115 m = some (m + 44) := (hm.2 43 _ rfl).1
theorem mt_lineWhat (hm : MO h m) : Tg h (m + 44) = 1540 := (hm.2 43 _ rfl).2.1
theorem ml_lineWhat (hm : MO h m) : An h (m + 44) = 240 := (hm.2 43 _ rfl).2.2
theorem mo_lineWho (hm : MO h m) : Fr h 116 m = some (m + 45) := (hm.2 44 _ rfl).1
theorem mt_lineWho (hm : MO h m) : Tg h (m + 45) = 1541 := (hm.2 44 _ rfl).2.1
theorem ml_lineWho (hm : MO h m) : An h (m + 45) = 240 := (hm.2 44 _ rfl).2.2
theorem mo_lineOf (hm : MO h m) : Fr h 117 m = some (m + 46) := (hm.2 45 _ rfl).1
theorem mt_lineOf (hm : MO h m) : Tg h (m + 46) = 1542 := (hm.2 45 _ rfl).2.1
theorem ml_lineOf (hm : MO h m) : An h (m + 46) = 240 := (hm.2 45 _ rfl).2.2
theorem mo_liesKnown (hm : MO h m) : Fr h 118 m = some (m + 47) := (hm.2 46 _ rfl).1
theorem mt_liesKnown (hm : MO h m) : Tg h (m + 47) = 1543 := (hm.2 46 _ rfl).2.1
theorem ml_liesKnown (hm : MO h m) : An h (m + 47) = 5 := (hm.2 46 _ rfl).2.2
theorem mo_liesThere (hm : MO h m) : Fr h 119 m = some (m + 48) := (hm.2 47 _ rfl).1
theorem mt_liesThere (hm : MO h m) : Tg h (m + 48) = 1544 := (hm.2 47 _ rfl).2.1
theorem ml_liesThere (hm : MO h m) : An h (m + 48) = 5 := (hm.2 47 _ rfl).2.2
theorem mo_tolds (hm : MO h m) : Fr h 120 m = some (m + 49) := (hm.2 48 _ rfl).1
theorem mt_tolds (hm : MO h m) : Tg h (m + 49) = 1545 := (hm.2 48 _ rfl).2.1
theorem ml_tolds (hm : MO h m) : An h (m + 49) = 5 := (hm.2 48 _ rfl).2.2
theorem mo_toldCall (hm : MO h m) : Fr h 121 m = some (m + 50) := (hm.2 49 _ rfl).1
theorem mt_toldCall (hm : MO h m) : Tg h (m + 50) = 1546 := (hm.2 49 _ rfl).2.1
theorem ml_toldCall (hm : MO h m) : An h (m + 50) = 60 := (hm.2 49 _ rfl).2.2
theorem mo_toldSound (hm : MO h m) : Fr h 122 m = some (m + 51) := (hm.2 50 _ rfl).1
theorem mt_toldSound (hm : MO h m) : Tg h (m + 51) = 1547 := (hm.2 50 _ rfl).2.1
theorem ml_toldSound (hm : MO h m) : An h (m + 51) = 60 := (hm.2 50 _ rfl).2.2
theorem mo_toldNear (hm : MO h m) : Fr h 123 m = some (m + 52) := (hm.2 51 _ rfl).1
theorem mt_toldNear (hm : MO h m) : Tg h (m + 52) = 2503 := (hm.2 51 _ rfl).2.1
theorem ml_toldNear (hm : MO h m) : An h (m + 52) = 60 := (hm.2 51 _ rfl).2.2
theorem mo_s (hm : MO h m) : Fr h 124 m = some (m + 53) := (hm.2 52 _ rfl).1
theorem mt_s (hm : MO h m) : Tg h (m + 53) = 1548 := (hm.2 52 _ rfl).2.1
theorem ml_s (hm : MO h m) : An h (m + 53) = 15 := (hm.2 52 _ rfl).2.2
theorem mo_aside (hm : MO h m) : Fr h 125 m = some (m + 54) := (hm.2 53 _ rfl).1
theorem mt_aside (hm : MO h m) : Tg h (m + 54) = 1549 := (hm.2 53 _ rfl).2.1
theorem ml_aside (hm : MO h m) : An h (m + 54) = 15 := (hm.2 53 _ rfl).2.2
theorem mo_marked (hm : MO h m) : Fr h 126 m = some (m + 55) := (hm.2 54 _ rfl).1
theorem mt_marked (hm : MO h m) : Tg h (m + 55) = 1550 := (hm.2 54 _ rfl).2.1
theorem ml_marked (hm : MO h m) : An h (m + 55) = 60 := (hm.2 54 _ rfl).2.2
theorem mo_undone (hm : MO h m) : Fr h 127 m = some (m + 56) := (hm.2 55 _ rfl).1
theorem mt_undone (hm : MO h m) : Tg h (m + 56) = 1551 := (hm.2 55 _ rfl).2.1
theorem ml_undone (hm : MO h m) : An h (m + 56) = 240 := (hm.2 55 _ rfl).2.2
theorem mo_isLaid (hm : MO h m) : Fr h 128 m = some (m + 57) := (hm.2 56 _ rfl).1
theorem mt_isLaid (hm : MO h m) : Tg h (m + 57) = 2504 := (hm.2 56 _ rfl).2.1
theorem ml_isLaid (hm : MO h m) : An h (m + 57) = 4 := (hm.2 56 _ rfl).2.2
theorem mo_heardBy (hm : MO h m) : Fr h 134 m = some (m + 58) := (hm.2 57 _ rfl).1
theorem mt_heardBy (hm : MO h m) : Tg h (m + 58) = 1552 := (hm.2 57 _ rfl).2.1
theorem ml_heardBy (hm : MO h m) : An h (m + 58) = 80 := (hm.2 57 _ rfl).2.2
theorem mo_halfBy (hm : MO h m) : Fr h 135 m = some (m + 59) := (hm.2 58 _ rfl).1
theorem mt_halfBy (hm : MO h m) : Tg h (m + 59) = 1553 := (hm.2 58 _ rfl).2.1
theorem ml_halfBy (hm : MO h m) : An h (m + 59) = 80 := (hm.2 58 _ rfl).2.2
theorem mo_callAs (hm : MO h m) : Fr h 136 m = some (m + 60) := (hm.2 59 _ rfl).1
theorem mt_callAs (hm : MO h m) : Tg h (m + 60) = 1554 := (hm.2 59 _ rfl).2.1
theorem ml_callAs (hm : MO h m) : An h (m + 60) = 80 := (hm.2 59 _ rfl).2.2
theorem mo_valueIn (hm : MO h m) : Fr h 138 m = some (m + 61) := (hm.2 60 _ rfl).1
theorem mt_valueIn (hm : MO h m) : Tg h (m + 61) = 1555 := (hm.2 60 _ rfl).2.1
theorem ml_valueIn (hm : MO h m) : An h (m + 61) = 30 := (hm.2 60 _ rfl).2.2
theorem mo_stateOf (hm : MO h m) : Fr h 140 m = some (m + 62) := (hm.2 61 _ rfl).1
theorem mt_stateOf (hm : MO h m) : Tg h (m + 62) = 1556 := (hm.2 61 _ rfl).2.1
theorem ml_stateOf (hm : MO h m) : An h (m + 62) = 59100 := (hm.2 61 _ rfl).2.2
theorem mo_met (hm : MO h m) : Fr h 141 m = some (m + 63) := (hm.2 62 _ rfl).1
theorem mt_met (hm : MO h m) : Tg h (m + 63) = 1557 := (hm.2 62 _ rfl).2.1
theorem ml_met (hm : MO h m) : An h (m + 63) = 32768 := (hm.2 62 _ rfl).2.2
theorem mo_fallIn (hm : MO h m) : Fr h 142 m = some (m + 64) := (hm.2 63 _ rfl).1
theorem mt_fallIn (hm : MO h m) : Tg h (m + 64) = 1558 := (hm.2 63 _ rfl).2.1
theorem ml_fallIn (hm : MO h m) : An h (m + 64) = 10 := (hm.2 63 _ rfl).2.2
theorem mo_order (hm : MO h m) : Fr h 143 m = some (m + 65) := (hm.2 64 _ rfl).1
theorem mt_order (hm : MO h m) : Tg h (m + 65) = 1559 := (hm.2 64 _ rfl).2.1
theorem ml_order (hm : MO h m) : An h (m + 65) = 4 := (hm.2 64 _ rfl).2.2
theorem mo_bestOrder (hm : MO h m) : Fr h 144 m = some (m + 66) := (hm.2 65 _ rfl).1
theorem mt_bestOrder (hm : MO h m) : Tg h (m + 66) = 1560 := (hm.2 65 _ rfl).2.1
theorem ml_bestOrder (hm : MO h m) : An h (m + 66) = 4 := (hm.2 65 _ rfl).2.2
end
