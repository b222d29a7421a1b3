/-! EW: the sites -/
set_option maxRecDepth 100000
theorem iX1_40 : ew_iI RX1 40 kJ31_init 0 := ⟨Or.inl (ew_q q176), ew_q q177, rfl, rfl, rfl, ⟨by decide +kernel, by decide +kernel⟩, by decide +kernel, w_J31_init, ew_q q3350, by decide⟩
theorem fX1_45 : ew_F RX1 45 0 0 := ⟨RX1, TX1, 11, "EventWindows", rfl, by decide, in_X1, Or.inl (ew_q q235), Or.inl rfl⟩
theorem pX1_45 : ew_P RX1 45 0 0 (.array .byte) true := ⟨RX1, TX1, 11, "EventWindows", tyX1, rfl, by decide, in_X1, Or.inl (ew_q q235), Or.inl rfl, tyX1_ok, nmX1, tyX1_ok 0 (by decide), rfl, fun _ => rfl⟩
theorem fX1_49 : ew_F RX1 49 0 3 := ⟨RX1, TX1, 11, "EventWindows", rfl, by decide, in_X1, Or.inl (ew_q q238), Or.inl rfl⟩
theorem pX1_49 : ew_P RX1 49 0 3 .int false := ⟨RX1, TX1, 11, "EventWindows", tyX1, rfl, by decide, in_X1, Or.inl (ew_q q238), Or.inl rfl, tyX1_ok, nmX1, tyX1_ok 3 (by decide), rfl, fun h => nomatch h⟩
theorem nX1_53 : ew_N RX1 53 15 [.null, .int 0, .int 0] := ⟨RJ1, TJ1, 3, tyJ1, rfl, in_J1, tyJ1_ok, ew_q q179, ew_q q180, ew_q q124, rfl, fun j h => (show ∀ j, j < 3 → defaultValue (tyJ1 j) = vp_V [.null, .int 0, .int 0] j by decide) j h⟩
theorem iX1_55 : ew_iI RX1 55 kJ1_init 0 := ⟨Or.inl (ew_q q181), ew_q q182, rfl, rfl, rfl, ⟨by decide +kernel, by decide +kernel⟩, by decide +kernel, w_J1_init, ew_q q124, by decide⟩
theorem fX1_56 : ew_F RX1 56 0 5 := ⟨RX1, TX1, 11, "EventWindows", rfl, by decide, in_X1, Or.inl (ew_q q240), Or.inl rfl⟩
theorem pX1_56 : ew_P RX1 56 0 5 (.object "java/util/ArrayDeque") true := ⟨RX1, TX1, 11, "EventWindows", tyX1, rfl, by decide, in_X1, Or.inl (ew_q q240), Or.inl rfl, tyX1_ok, nmX1, tyX1_ok 5 (by decide), rfl, fun _ => rfl⟩
theorem fX1_60 : ew_F RX1 60 0 6 := ⟨RX1, TX1, 11, "EventWindows", rfl, by decide, in_X1, Or.inl (ew_q q241), Or.inl rfl⟩
theorem pX1_60 : ew_P RX1 60 0 6 (.array (.object "EventWindows$Net")) true := ⟨RX1, TX1, 11, "EventWindows", tyX1, rfl, by decide, in_X1, Or.inl (ew_q q241), Or.inl rfl, tyX1_ok, nmX1, tyX1_ok 6 (by decide), rfl, fun _ => rfl⟩
theorem nX1_64 : ew_N RX1 64 16 [.null, .int 0, .int 0, .int 0] := ⟨RJ3, TJ3, 4, tyJ3, rfl, in_J3, tyJ3_ok, ew_q q203, ew_q q204, ew_q q126, rfl, fun j h => (show ∀ j, j < 4 → defaultValue (tyJ3 j) = vp_V [.null, .int 0, .int 0, .int 0] j by decide) j h⟩
theorem iX1_66 : ew_iI RX1 66 kJ3_init 0 := ⟨Or.inl (ew_q q205), ew_q q206, rfl, rfl, rfl, ⟨by decide +kernel, by decide +kernel⟩, by decide +kernel, w_J3_init, ew_q q126, by decide⟩
theorem fX1_67 : ew_F RX1 67 0 7 := ⟨RX1, TX1, 11, "EventWindows", rfl, by decide, in_X1, Or.inl (ew_q q242), Or.inl rfl⟩
theorem pX1_67 : ew_P RX1 67 0 7 (.object "java/lang/StringBuilder") true := ⟨RX1, TX1, 11, "EventWindows", tyX1, rfl, by decide, in_X1, Or.inl (ew_q q242), Or.inl rfl, tyX1_ok, nmX1, tyX1_ok 7 (by decide), rfl, fun _ => rfl⟩
theorem fX1_145 : ew_F RX1 145 0 1 := ⟨RX1, TX1, 11, "EventWindows", rfl, by decide, in_X1, Or.inl (ew_q q236), Or.inl rfl⟩
theorem pX1_145 : ew_P RX1 145 0 1 .int false := ⟨RX1, TX1, 11, "EventWindows", tyX1, rfl, by decide, in_X1, Or.inl (ew_q q236), Or.inl rfl, tyX1_ok, nmX1, tyX1_ok 1 (by decide), rfl, fun h => nomatch h⟩
theorem fX1_148 : ew_F RX1 148 0 2 := ⟨RX1, TX1, 11, "EventWindows", rfl, by decide, in_X1, Or.inl (ew_q q237), Or.inl rfl⟩
theorem fX1_84 : ew_F RX1 84 0 4 := ⟨RX1, TX1, 11, "EventWindows", rfl, by decide, in_X1, Or.inl (ew_q q239), Or.inl rfl⟩
theorem vX1_13 : ew_iV RX1 13 5 kX6_events 0 := ⟨⟨_, rfl, ew_q q292⟩, Or.inl (ew_q q290), ew_q q291, ⟨by decide +kernel, by decide +kernel⟩, by decide +kernel, w_X6_events, ew_q q157, by decide⟩
theorem fX1_117 : ew_F RX1 117 5 1 := ⟨RX6, TX6, 5, "EventWindows$Net", rfl, by decide, in_X6, Or.inr ⟨"EventWindows", ew_qt q1454 rfl⟩, Or.inl rfl⟩
theorem tX1_121_19 : ew_iF RX1 121 19 kJ14_size 0 := ⟨_, ⟨"java/util/List", "size", "()I"⟩, rfl, ew_q q299, ew_qt q301 rfl, ew_qt q300 rfl, ew_q q303, ew_q q305, ew_qt q306 rfl, ew_qt q304 rfl, ew_qt q302 rfl, ⟨by decide +kernel, by decide +kernel⟩, by decide +kernel, w_J14_size, ew_q q139, by decide⟩
theorem vX1_405 : ew_iV RX1 405 15 kJ1_size 0 := ⟨⟨_, rfl, ew_q q314⟩, Or.inl (ew_q q312), ew_q q313, ⟨by decide +kernel, by decide +kernel⟩, by decide +kernel, w_J1_size, ew_q q124, by decide⟩
theorem sX1_113 : ew_iS RX1 113 kX1_checkIndex 2 := ⟨Or.inl (ew_q q406), ew_q q407, ⟨by decide +kernel, by decide +kernel⟩, by decide +kernel, w_X1_checkIndex, ew_q q122, by decide⟩
theorem pX1_148 : ew_P RX1 148 0 2 .int false := ⟨RX1, TX1, 11, "EventWindows", tyX1, rfl, by decide, in_X1, Or.inl (ew_q q237), Or.inl rfl, tyX1_ok, nmX1, tyX1_ok 2 (by decide), rfl, fun h => nomatch h⟩
theorem nX1_151 : ew_N RX1 151 2 [.null, .int 0, .int 0, .int 0, .int 0, .int 0, .int 0, .int 0, .int 0, .null, .null, .null, .null, .null, .null, .null] := ⟨RX3, TX3, 16, tyX3, rfl, in_X3, tyX3_ok, ew_q q433, ew_q q434, ew_q q135, rfl, fun j h => (show ∀ j, j < 16 → defaultValue (tyX3 j) = vp_V [.null, .int 0, .int 0, .int 0, .int 0, .int 0, .int 0, .int 0, .int 0, .null, .null, .null, .null, .null, .null, .null] j by decide) j h⟩
theorem iX1_153 : ew_iI RX1 153 kX3_init 2 := ⟨Or.inl (ew_q q435), ew_q q436, rfl, rfl, rfl, ⟨by decide +kernel, by decide +kernel⟩, by decide +kernel, w_X3_init, ew_q q135, by decide⟩
theorem vX1_156 : ew_iV RX1 156 2 kX3_parse 0 := ⟨⟨_, rfl, ew_q q546⟩, Or.inl (ew_q q544), ew_q q545, ⟨by decide +kernel, by decide +kernel⟩, by decide +kernel, w_X3_parse, ew_q q135, by decide⟩
theorem pX1_84 : ew_P RX1 84 0 4 (.object "EventWindows$Net") false := ⟨RX1, TX1, 11, "EventWindows", tyX1, rfl, by decide, in_X1, Or.inl (ew_q q239), Or.inl rfl, tyX1_ok, nmX1, tyX1_ok 4 (by decide), rfl, fun h => nomatch h⟩
theorem vX1_159 : ew_iV RX1 159 15 kJ1_clear 0 := ⟨⟨_, rfl, ew_q q1522⟩, Or.inl (ew_q q1520), ew_q q1521, ⟨by decide +kernel, by decide +kernel⟩, by decide +kernel, w_J1_clear, ew_q q124, by decide⟩
theorem nX1_101 : ew_N RX1 101 6 [.int 0, .null] := ⟨RX7, TX7, 2, tyX7, rfl, in_X7, tyX7_ok, ew_q q1527, ew_q q1528, ew_q q158, rfl, fun j h => (show ∀ j, j < 2 → defaultValue (tyX7 j) = vp_V [.int 0, .null] j by decide) j h⟩
theorem iX1_162 : ew_iI RX1 162 kX7_init 1 := ⟨Or.inl (ew_q q1529), ew_q q1530, rfl, rfl, rfl, ⟨by decide +kernel, by decide +kernel⟩, by decide +kernel, w_X7_init, ew_q q158, by decide⟩
theorem fX1_92 : ew_F RX1 92 0 8 := ⟨RX1, TX1, 11, "EventWindows", rfl, by decide, in_X1, Or.inl (ew_q q243), Or.inl rfl⟩
theorem pX1_92 : ew_P RX1 92 0 8 (.object "EventWindows$Square") false := ⟨RX1, TX1, 11, "EventWindows", tyX1, rfl, by decide, in_X1, Or.inl (ew_q q243), Or.inl rfl, tyX1_ok, nmX1, tyX1_ok 8 (by decide), rfl, fun h => nomatch h⟩
theorem fX1_163 : ew_F RX1 163 0 9 := ⟨RX1, TX1, 11, "EventWindows", rfl, by decide, in_X1, Or.inl (ew_q q244), Or.inl rfl⟩
theorem pX1_163 : ew_P RX1 163 0 9 (.object "EventWindows$Square") false := ⟨RX1, TX1, 11, "EventWindows", tyX1, rfl, by decide, in_X1, Or.inl (ew_q q244), Or.inl rfl, tyX1_ok, nmX1, tyX1_ok 9 (by decide), rfl, fun h => nomatch h⟩
theorem nX1_166 : ew_N RX1 166 7 [.null, .null, .null, .int 0, .int 0] := ⟨RX8, TX8, 5, tyX8, rfl, in_X8, tyX8_ok, ew_q q1540, ew_q q1541, ew_q q159, rfl, fun j h => (show ∀ j, j < 5 → defaultValue (tyX8 j) = vp_V [.null, .null, .null, .int 0, .int 0] j by decide) j h⟩
theorem iX1_168 : ew_iI RX1 168 kX8_init 1 := ⟨Or.inl (ew_q q1542), ew_q q1543, rfl, rfl, rfl, ⟨by decide +kernel, by decide +kernel⟩, by decide +kernel, w_X8_init, ew_q q159, by decide⟩
theorem fX1_169 : ew_F RX1 169 0 10 := ⟨RX1, TX1, 11, "EventWindows", rfl, by decide, in_X1, Or.inl (ew_q q245), Or.inl rfl⟩
theorem pX1_169 : ew_P RX1 169 0 10 (.object "EventWindows$Run") false := ⟨RX1, TX1, 11, "EventWindows", tyX1, rfl, by decide, in_X1, Or.inl (ew_q q245), Or.inl rfl, tyX1_ok, nmX1, tyX1_ok 10 (by decide), rfl, fun h => nomatch h⟩
theorem fX1_175 : ew_F RX1 175 3 6 := ⟨RX4, TX4, 8, "EventWindows$Flaw", rfl, by decide, in_X4, Or.inr ⟨"EventWindows", ew_qt q843 rfl⟩, Or.inl rfl⟩
theorem fX1_178 : ew_F RX1 178 3 7 := ⟨RX4, TX4, 8, "EventWindows$Flaw", rfl, by decide, in_X4, Or.inr ⟨"EventWindows", ew_qt q845 rfl⟩, Or.inl rfl⟩
theorem sX1_74 : ew_iS RX1 74 kX1_in 3 := ⟨Or.inl (ew_q q409), ew_q q410, ⟨by decide +kernel, by decide +kernel⟩, by decide +kernel, w_X1_in, ew_q q122, by decide⟩
theorem vX1_181 : ew_iV RX1 181 0 kX1_withEvent 1 := ⟨⟨_, rfl, ew_q qs21⟩, Or.inl (ew_q q1581), ew_q q1583, ⟨by decide +kernel, by decide +kernel⟩, by decide +kernel, w_X1_withEvent, ew_q q122, by decide⟩
theorem fX1_185 : ew_F RX1 185 5 0 := ⟨RX6, TX6, 5, "EventWindows$Net", rfl, by decide, in_X6, Or.inr ⟨"EventWindows", ew_qt q1451 rfl⟩, Or.inl rfl⟩
theorem vX1_189 : ew_iV RX1 189 17 kJ4_length 0 := ⟨⟨_, rfl, ew_q q752⟩, Or.inl (ew_q q1607), ew_q q751, ⟨by decide +kernel, by decide +kernel⟩, by decide +kernel, w_J4_length, ew_q q127, by decide⟩
theorem vX1_194 : ew_iV RX1 194 17 kJ4_charAt 1 := ⟨⟨_, rfl, ew_q q866⟩, Or.inl (ew_q q1608), ew_q q865, ⟨by decide +kernel, by decide +kernel⟩, by decide +kernel, w_J4_charAt, ew_q q127, by decide⟩
theorem vX1_106 : ew_iV RX1 106 0 kX1_there 0 := ⟨⟨_, rfl, ew_q qs22⟩, Or.inl (ew_q q1585), ew_q q1587, ⟨by decide +kernel, by decide +kernel⟩, by decide +kernel, w_X1_there, ew_q q122, by decide⟩
theorem sX1_88 : ew_iS RX1 88 kX1_checkState 1 := ⟨Or.inl (ew_q q1589), ew_q q1590, ⟨by decide +kernel, by decide +kernel⟩, by decide +kernel, w_X1_checkState, ew_q q122, by decide⟩
theorem vX1_140 : ew_iV RX1 140 0 kX1_withWindow 1 := ⟨⟨_, rfl, ew_q qs23⟩, Or.inl (ew_q q1616), ew_q q1618, ⟨by decide +kernel, by decide +kernel⟩, by decide +kernel, w_X1_withWindow, ew_q q122, by decide⟩
theorem sX1_198 : ew_iS RX1 198 kX1_checkArgument 1 := ⟨Or.inl (ew_q q1623), ew_q q1624, ⟨by decide +kernel, by decide +kernel⟩, by decide +kernel, w_X1_checkArgument, ew_q q122, by decide⟩
theorem vX1_201 : ew_iV RX1 201 4 kX5_part 1 := ⟨⟨_, rfl, ew_q q1628⟩, Or.inl (ew_q q1626), ew_q q1627, ⟨by decide +kernel, by decide +kernel⟩, by decide +kernel, w_X5_part, ew_q q156, by decide⟩
theorem tX1_126_19 : ew_iF RX1 126 19 kJ14_get 1 := ⟨_, ⟨"java/util/List", "get", "(I)Ljava/lang/Object;"⟩, rfl, ew_q q1621, ew_qt q1428 rfl, ew_qt q1427 rfl, ew_q q1429, ew_q q1431, ew_qt q1432 rfl, ew_qt q1430 rfl, ew_qt q302 rfl, ⟨by decide +kernel, by decide +kernel⟩, by decide +kernel, w_J14_get, ew_q q139, by decide⟩
theorem fX1_205 : ew_F RX1 205 5 2 := ⟨RX6, TX6, 5, "EventWindows$Net", rfl, by decide, in_X6, Or.inr ⟨"EventWindows", ew_qt q1458 rfl⟩, Or.inl rfl⟩
theorem fX1_209 : ew_F RX1 209 5 3 := ⟨RX6, TX6, 5, "EventWindows$Net", rfl, by decide, in_X6, Or.inr ⟨"EventWindows", ew_qt q1462 rfl⟩, Or.inl rfl⟩
theorem fX1_212 : ew_F RX1 212 5 4 := ⟨RX6, TX6, 5, "EventWindows$Net", rfl, by decide, in_X6, Or.inr ⟨"EventWindows", ew_qt q1466 rfl⟩, Or.inl rfl⟩
theorem vX1_110 : ew_iV RX1 110 0 kX1_isSoundNow 0 := ⟨⟨_, rfl, ew_q qs24⟩, Or.inl (ew_q q1658), ew_q q1660, ⟨by decide +kernel, by decide +kernel⟩, by decide +kernel, w_X1_isSoundNow, ew_q q122, by decide⟩
theorem vX1_96 : ew_iV RX1 96 5 kX6_lay 3 := ⟨⟨_, rfl, ew_q q1664⟩, Or.inl (ew_q q1662), ew_q q1663, ⟨by decide +kernel, by decide +kernel⟩, by decide +kernel, w_X6_lay, ew_q q157, by decide⟩
theorem vX1_100 : ew_iV RX1 100 6 kX7_isSound 0 := ⟨⟨_, rfl, ew_q q1705⟩, Or.inl (ew_q q1703), ew_q q1704, ⟨by decide +kernel, by decide +kernel⟩, by decide +kernel, w_X7_isSound, ew_q q158, by decide⟩
theorem sX1_215 : ew_iS RX1 215 kX1_round 1 := ⟨Or.inl (ew_q q1714), ew_q q1715, ⟨by decide +kernel, by decide +kernel⟩, by decide +kernel, w_X1_round, ew_q q122, by decide⟩
theorem nX1_1 : ew_N RX1 1 8 [.null, .int 0, .null] := ⟨RX9, TX9, 3, tyX9, rfl, in_X9, tyX9_ok, ew_q q1717, ew_q q1718, ew_q q161, rfl, fun j h => (show ∀ j, j < 3 → defaultValue (tyX9 j) = vp_V [.null, .int 0, .null] j by decide) j h⟩
theorem vX1_3 : ew_iV RX1 3 5 kX6_steps 0 := ⟨⟨_, rfl, ew_q q1721⟩, Or.inl (ew_q q1719), ew_q q1720, ⟨by decide +kernel, by decide +kernel⟩, by decide +kernel, w_X6_steps, ew_q q157, by decide⟩
theorem iX1_9 : ew_iI RX1 9 kX9_init 2 := ⟨Or.inl (ew_q q1767), ew_q q1768, rfl, rfl, rfl, ⟨by decide +kernel, by decide +kernel⟩, by decide +kernel, w_X9_init, ew_q q161, by decide⟩
theorem vX1_19 : ew_iV RX1 19 8 kX9_to 1 := ⟨⟨_, rfl, ew_q q1784⟩, Or.inl (ew_q q1782), ew_q q1783, ⟨by decide +kernel, by decide +kernel⟩, by decide +kernel, w_X9_to, ew_q q161, by decide⟩
theorem sX1_23 : ew_iS RX1 23 kJ16_min 2 := ⟨Or.inl (ew_q q1797), ew_q q596, ⟨by decide +kernel, by decide +kernel⟩, by decide +kernel, w_J16_min, ew_q q141, by decide⟩
theorem vX1_29 : ew_iV RX1 29 8 kX9_sum 2 := ⟨⟨_, rfl, ew_q q1794⟩, Or.inl (ew_q q1798), ew_q q1793, ⟨by decide +kernel, by decide +kernel⟩, by decide +kernel, w_X9_sum, ew_q q161, by decide⟩
theorem nX1_32 : ew_N RX1 32 19 [.int 0, .null, .int 0] := ⟨RJ14, TJ14, 3, tyJ14, rfl, in_J14, tyJ14_ok, ew_q q1799, ew_q q473, ew_q q139, rfl, fun j h => (show ∀ j, j < 3 → defaultValue (tyJ14 j) = vp_V [.int 0, .null, .int 0] j by decide) j h⟩
theorem iX1_34 : ew_iI RX1 34 kJ14_init_2 1 := ⟨Or.inl (ew_q q1800), ew_q q1724, rfl, rfl, rfl, ⟨by decide +kernel, by decide +kernel⟩, by decide +kernel, w_J14_init_2, ew_q q139, by decide⟩
theorem vX1_36 : ew_iV RX1 36 8 kX9_row 2 := ⟨⟨_, rfl, ew_q q1803⟩, Or.inl (ew_q q1801), ew_q q1802, ⟨by decide +kernel, by decide +kernel⟩, by decide +kernel, w_X9_row, ew_q q161, by decide⟩
theorem fX1_221 : ew_F RX1 221 9 0 := ⟨RX10, TX10, 4, "EventWindows$Step", rfl, by decide, in_X10, Or.inr ⟨"EventWindows", ew_qt q1747 rfl⟩, Or.inl rfl⟩
theorem fX1_222 : ew_F RX1 222 9 3 := ⟨RX10, TX10, 4, "EventWindows$Step", rfl, by decide, in_X10, Or.inr ⟨"EventWindows", ew_qt q1755 rfl⟩, Or.inl rfl⟩
theorem vX1_224 : ew_iV RX1 224 0 kX1_soundWith 2 := ⟨⟨_, rfl, ew_q qs25⟩, Or.inl (ew_q q1831), ew_q q1833, ⟨by decide +kernel, by decide +kernel⟩, by decide +kernel, w_X1_soundWith, ew_q q122, by decide⟩
theorem vX1_227 : ew_iV RX1 227 6 kX7_sum 2 := ⟨⟨_, rfl, ew_q q1700⟩, Or.inl (ew_q q1843), ew_q q1699, ⟨by decide +kernel, by decide +kernel⟩, by decide +kernel, w_X7_sum, ew_q q158, by decide⟩
theorem vX1_136 : ew_iV RX1 136 0 kX1_soundWith_2 1 := ⟨⟨_, rfl, ew_q qs26⟩, Or.inl (ew_q q1835), ew_q q1837, ⟨by decide +kernel, by decide +kernel⟩, by decide +kernel, w_X1_soundWith_2, ew_q q122, by decide⟩
theorem vX1_132 : ew_iV RX1 132 0 kX1_sound 0 := ⟨⟨_, rfl, ew_q qs27⟩, Or.inl (ew_q q1839), ew_q q1841, ⟨by decide +kernel, by decide +kernel⟩, by decide +kernel, w_X1_sound, ew_q q122, by decide⟩
theorem vX1_228 : ew_iV RX1 228 6 kX7_earliest 1 := ⟨⟨_, rfl, ew_q q1861⟩, Or.inl (ew_q q1859), ew_q q1860, ⟨by decide +kernel, by decide +kernel⟩, by decide +kernel, w_X7_earliest, ew_q q158, by decide⟩
theorem vX1_231 : ew_iV RX1 231 6 kX7_latest 1 := ⟨⟨_, rfl, ew_q q1872⟩, Or.inl (ew_q q1870), ew_q q1871, ⟨by decide +kernel, by decide +kernel⟩, by decide +kernel, w_X7_latest, ew_q q158, by decide⟩
theorem sX1_234 : ew_iS RX1 234 kX1_timeOf 1 := ⟨Or.inl (ew_q q1874), ew_q q1875, ⟨by decide +kernel, by decide +kernel⟩, by decide +kernel, w_X1_timeOf, ew_q q122, by decide⟩
theorem vX1_237 : ew_iV RX1 237 6 kX7_slack 1 := ⟨⟨_, rfl, ew_q q1886⟩, Or.inl (ew_q q1884), ew_q q1885, ⟨by decide +kernel, by decide +kernel⟩, by decide +kernel, w_X7_slack, ew_q q158, by decide⟩
theorem vX1_240 : ew_iV RX1 240 8 kX9_fewest 2 := ⟨⟨_, rfl, ew_q q1903⟩, Or.inl (ew_q q1901), ew_q q1902, ⟨by decide +kernel, by decide +kernel⟩, by decide +kernel, w_X9_fewest, ew_q q161, by decide⟩
theorem vX1_243 : ew_iV RX1 243 0 kX1_soundWindow 1 := ⟨⟨_, rfl, ew_q qs28⟩, Or.inl (ew_q q1919), ew_q q1921, ⟨by decide +kernel, by decide +kernel⟩, by decide +kernel, w_X1_soundWindow, ew_q q122, by decide⟩
theorem vX1_246 : ew_iV RX1 246 4 kX5_hasBound 1 := ⟨⟨_, rfl, ew_q q1738⟩, Or.inl (ew_q q1923), ew_q q1737, ⟨by decide +kernel, by decide +kernel⟩, by decide +kernel, w_X5_hasBound, ew_q q156, by decide⟩
theorem fX1_250 : ew_F RX1 250 4 1 := ⟨RX5, TX5, 6, "EventWindows$Window", rfl, by decide, in_X5, Or.inr ⟨"EventWindows", ew_qt q1397 rfl⟩, Or.inl rfl⟩
theorem fX1_252 : ew_F RX1 252 4 0 := ⟨RX5, TX5, 6, "EventWindows$Window", rfl, by decide, in_X5, Or.inr ⟨"EventWindows", ew_qt q1394 rfl⟩, Or.inl rfl⟩
theorem fX1_255 : ew_F RX1 255 4 2 := ⟨RX5, TX5, 6, "EventWindows$Window", rfl, by decide, in_X5, Or.inr ⟨"EventWindows", ew_qt q1400 rfl⟩, Or.inl rfl⟩
theorem fX1_258 : ew_F RX1 258 4 3 := ⟨RX5, TX5, 6, "EventWindows$Window", rfl, by decide, in_X5, Or.inr ⟨"EventWindows", ew_qt q1403 rfl⟩, Or.inl rfl⟩
theorem vX1_269 : ew_iV RX1 269 0 kX1_isNeededNow 1 := ⟨⟨_, rfl, ew_q qs29⟩, Or.inl (ew_q q1931), ew_q q1933, ⟨by decide +kernel, by decide +kernel⟩, by decide +kernel, w_X1_isNeededNow, ew_q q122, by decide⟩
theorem fX1_261 : ew_F RX1 261 4 5 := ⟨RX5, TX5, 6, "EventWindows$Window", rfl, by decide, in_X5, Or.inr ⟨"EventWindows", ew_qt q1409 rfl⟩, Or.inl rfl⟩
theorem vX1_265 : ew_iV RX1 265 6 kX7_isLike 1 := ⟨⟨_, rfl, ew_q q1937⟩, Or.inl (ew_q q1935), ew_q q1936, ⟨by decide +kernel, by decide +kernel⟩, by decide +kernel, w_X7_isLike, ew_q q158, by decide⟩
theorem vX1_273 : ew_iV RX1 273 6 kX7_hasLatest 1 := ⟨⟨_, rfl, ew_q q1890⟩, Or.inl (ew_q q1946), ew_q q1889, ⟨by decide +kernel, by decide +kernel⟩, by decide +kernel, w_X7_hasLatest, ew_q q158, by decide⟩
theorem vX1_276 : ew_iV RX1 276 5 kX6_part 1 := ⟨⟨_, rfl, ew_q q1977⟩, Or.inl (ew_q q1975), ew_q q1976, ⟨by decide +kernel, by decide +kernel⟩, by decide +kernel, w_X6_part, ew_q q157, by decide⟩
theorem sX1_277 : ew_iS RX1 277 kX1_has 2 := ⟨Or.inl (ew_q q1986), ew_q q1379, ⟨by decide +kernel, by decide +kernel⟩, by decide +kernel, w_X1_has, ew_q q122, by decide⟩
theorem sX1_281 : ew_iS RX1 281 kJ16_max 2 := ⟨Or.inl (ew_q q1994), ew_q q578, ⟨by decide +kernel, by decide +kernel⟩, by decide +kernel, w_J16_max, ew_q q141, by decide⟩
theorem vX1_284 : ew_iV RX1 284 0 kX1_units 2 := ⟨⟨_, rfl, ew_q qs30⟩, Or.inl (ew_q q2016), ew_q q2018, ⟨by decide +kernel, by decide +kernel⟩, by decide +kernel, w_X1_units, ew_q q122, by decide⟩
theorem vX1_320 : ew_iV RX1 320 0 kX1_best 0 := ⟨⟨_, rfl, ew_q qs31⟩, Or.inl (ew_q q2027), ew_q q2029, ⟨by decide +kernel, by decide +kernel⟩, by decide +kernel, w_X1_best, ew_q q122, by decide⟩
theorem fX1_324 : ew_F RX1 324 10 0 := ⟨RX11, TX11, 3, "EventWindows$Mend", rfl, by decide, in_X11, Or.inr ⟨"EventWindows", ew_qt q2043 rfl⟩, Or.inl rfl⟩
theorem iX1_288 : ew_iI RX1 288 kJ14_init 0 := ⟨Or.inl (ew_q q2031), ew_q q475, rfl, rfl, rfl, ⟨by decide +kernel, by decide +kernel⟩, by decide +kernel, w_J14_init, ew_q q139, by decide⟩
theorem vX1_289 : ew_iV RX1 289 4 kX5_isSoft 0 := ⟨⟨_, rfl, ew_q q2034⟩, Or.inl (ew_q q2032), ew_q q2033, ⟨by decide +kernel, by decide +kernel⟩, by decide +kernel, w_X5_isSoft, ew_q q156, by decide⟩
theorem nX1_292 : ew_N RX1 292 10 [.int 0, .int 0, .int 0] := ⟨RX11, TX11, 3, tyX11, rfl, in_X11, tyX11_ok, ew_q q2036, ew_q q2037, ew_q q163, rfl, fun j h => (show ∀ j, j < 3 → defaultValue (tyX11 j) = vp_V [.int 0, .int 0, .int 0] j by decide) j h⟩
theorem fX1_294 : ew_F RX1 294 4 4 := ⟨RX5, TX5, 6, "EventWindows$Window", rfl, by decide, in_X5, Or.inr ⟨"EventWindows", ew_qt q1406 rfl⟩, Or.inl rfl⟩
theorem iX1_297 : ew_iI RX1 297 kX11_init 3 := ⟨Or.inl (ew_q q2038), ew_q q2039, rfl, rfl, rfl, ⟨by decide +kernel, by decide +kernel⟩, by decide +kernel, w_X11_init, ew_q q163, by decide⟩
theorem tX1_300_19 : ew_iF RX1 300 19 kJ14_add 1 := ⟨_, ⟨"java/util/List", "add", "(Ljava/lang/Object;)Z"⟩, rfl, ew_q q2056, ew_qt q1233 rfl, ew_qt q1232 rfl, ew_q q1234, ew_q q1236, ew_qt q1237 rfl, ew_qt q1235 rfl, ew_qt q302 rfl, ⟨by decide +kernel, by decide +kernel⟩, by decide +kernel, w_J14_add, ew_q q139, by decide⟩
theorem nX1_304 : ew_N RX1 304 11 [.null, .null] := ⟨RX12, TX12, 2, tyX12, rfl, in_X12, tyX12_ok, ew_q q2057, ew_q q2058, ew_q q164, rfl, fun j h => (show ∀ j, j < 2 → defaultValue (tyX12 j) = vp_V [.null, .null] j by decide) j h⟩
theorem nX1_306 : ew_N RX1 306 12 [] := ⟨RX13, TX7, 0, tyX7, rfl, fun w h => absurd h List.not_mem_nil, fun j h => absurd h (Nat.not_lt_zero j), ew_q q2059, ew_q q2060, ew_q q165, rfl, fun j h => absurd h (Nat.not_lt_zero j)⟩
theorem iX1_308 : ew_iI RX1 308 kX13_init 0 := ⟨Or.inr ⟨"EventWindows", ew_qt q2061 rfl⟩, ew_q q2062, rfl, rfl, rfl, ⟨by decide +kernel, by decide +kernel⟩, by decide +kernel, w_X13_init, ew_q q165, by decide⟩
theorem iX1_309 : ew_iI RX1 309 kX12_init 1 := ⟨Or.inl (ew_q q2066), ew_q q2067, rfl, rfl, rfl, ⟨by decide +kernel, by decide +kernel⟩, by decide +kernel, w_X12_init, ew_q q164, by decide⟩
theorem vX1_312 : ew_iV RX1 312 11 kX12_offerAll 1 := ⟨⟨_, rfl, ew_q q2079⟩, Or.inl (ew_q q2077), ew_q q2078, ⟨by decide +kernel, by decide +kernel⟩, by decide +kernel, w_X12_offerAll, ew_q q164, by decide⟩
theorem vX1_316 : ew_iV RX1 316 11 kX12_first 0 := ⟨⟨_, rfl, ew_q q2093⟩, Or.inl (ew_q q2091), ew_q q2092, ⟨by decide +kernel, by decide +kernel⟩, by decide +kernel, w_X12_first, ew_q q164, by decide⟩
theorem fX1_325 : ew_F RX1 325 10 2 := ⟨RX11, TX11, 3, "EventWindows$Mend", rfl, by decide, in_X11, Or.inr ⟨"EventWindows", ew_qt q2047 rfl⟩, Or.inl rfl⟩
theorem vX1_350 : ew_iV RX1 350 0 kX1_cheapest 0 := ⟨⟨_, rfl, ew_q qs32⟩, Or.inl (ew_q q2109), ew_q q2111, ⟨by decide +kernel, by decide +kernel⟩, by decide +kernel, w_X1_cheapest, ew_q q122, by decide⟩
theorem fX1_341 : ew_F RX1 341 14 0 := ⟨RX15, TX15, 4, "EventWindows$Drop", rfl, by decide, in_X15, Or.inr ⟨"EventWindows", ew_qt q2156 rfl⟩, Or.inl rfl⟩
theorem nX1_326 : ew_N RX1 326 22 [.null, .int 0, .null, .int 0] := ⟨RJ29, TJ29, 4, tyJ29, rfl, in_J29, tyJ29_ok, ew_q q2113, ew_q q2114, ew_q q167, rfl, fun j h => (show ∀ j, j < 4 → defaultValue (tyJ29 j) = vp_V [.null, .int 0, .null, .int 0] j by decide) j h⟩
theorem nX1_328 : ew_N RX1 328 13 [] := ⟨RX14, TX7, 0, tyX7, rfl, fun w h => absurd h List.not_mem_nil, fun j h => absurd h (Nat.not_lt_zero j), ew_q q2115, ew_q q2116, ew_q q168, rfl, fun j h => absurd h (Nat.not_lt_zero j)⟩
theorem iX1_330 : ew_iI RX1 330 kX14_init 0 := ⟨Or.inr ⟨"EventWindows", ew_qt q2117 rfl⟩, ew_q q2118, rfl, rfl, rfl, ⟨by decide +kernel, by decide +kernel⟩, by decide +kernel, w_X14_init, ew_q q168, by decide⟩
theorem iX1_331 : ew_iI RX1 331 kJ29_init 1 := ⟨Or.inl (ew_q q2122), ew_q q2123, rfl, rfl, rfl, ⟨by decide +kernel, by decide +kernel⟩, by decide +kernel, w_J29_init, ew_q q167, by decide⟩
theorem nX1_332 : ew_N RX1 332 14 [.int 0, .int 0, .int 0, .int 0] := ⟨RX15, TX15, 4, tyX15, rfl, in_X15, tyX15_ok, ew_q q2148, ew_q q2149, ew_q q169, rfl, fun j h => (show ∀ j, j < 4 → defaultValue (tyX15 j) = vp_V [.int 0, .int 0, .int 0, .int 0] j by decide) j h⟩
theorem iX1_334 : ew_iI RX1 334 kX15_init 4 := ⟨Or.inl (ew_q q2150), ew_q q2151, rfl, rfl, rfl, ⟨by decide +kernel, by decide +kernel⟩, by decide +kernel, w_X15_init, ew_q q169, by decide⟩
theorem vX1_337 : ew_iV RX1 337 22 kJ29_add 1 := ⟨⟨_, rfl, ew_q q2176⟩, Or.inl (ew_q q2174), ew_q q2175, ⟨by decide +kernel, by decide +kernel⟩, by decide +kernel, w_J29_add, ew_q q167, by decide⟩
theorem vX1_338 : ew_iV RX1 338 22 kJ29_poll 0 := ⟨⟨_, rfl, ew_q q2204⟩, Or.inl (ew_q q2202), ew_q q2203, ⟨by decide +kernel, by decide +kernel⟩, by decide +kernel, w_J29_poll, ew_q q167, by decide⟩
theorem fX1_343 : ew_F RX1 343 14 3 := ⟨RX15, TX15, 4, "EventWindows$Drop", rfl, by decide, in_X15, Or.inr ⟨"EventWindows", ew_qt q2164 rfl⟩, Or.inl rfl⟩
theorem vX1_346 : ew_iV RX1 346 14 kX15_with 2 := ⟨⟨_, rfl, ew_q q2214⟩, Or.inl (ew_q q2212), ew_q q2213, ⟨by decide +kernel, by decide +kernel⟩, by decide +kernel, w_X15_with, ew_q q169, by decide⟩
theorem fX1_354 : ew_F RX1 354 14 1 := ⟨RX15, TX15, 4, "EventWindows$Drop", rfl, by decide, in_X15, Or.inr ⟨"EventWindows", ew_qt q2159 rfl⟩, Or.inl rfl⟩
theorem vX1_359 : ew_iV RX1 359 0 kX1_runs 1 := ⟨⟨_, rfl, ew_q qs35⟩, Or.inl (ew_q q2232), ew_q q2234, ⟨by decide +kernel, by decide +kernel⟩, by decide +kernel, w_X1_runs, ew_q q122, by decide⟩
theorem fX1_363 : ew_F RX1 363 7 4 := ⟨RX8, TX8, 5, "EventWindows$Run", rfl, by decide, in_X8, Or.inr ⟨"EventWindows", ew_qt q1556 rfl⟩, Or.inl rfl⟩
theorem vX1_355 : ew_iV RX1 355 7 kX8_goes 5 := ⟨⟨_, rfl, ew_q q2238⟩, Or.inl (ew_q q2236), ew_q q2237, ⟨by decide +kernel, by decide +kernel⟩, by decide +kernel, w_X8_goes, ew_q q159, by decide⟩
theorem fX1_366 : ew_F RX1 366 7 1 := ⟨RX8, TX8, 5, "EventWindows$Run", rfl, by decide, in_X8, Or.inr ⟨"EventWindows", ew_qt q1550 rfl⟩, Or.inl rfl⟩
theorem vX1_369 : ew_iV RX1 369 5 kX6_isFree 1 := ⟨⟨_, rfl, ew_q q1691⟩, Or.inl (ew_q q2293), ew_q q1690, ⟨by decide +kernel, by decide +kernel⟩, by decide +kernel, w_X6_isFree, ew_q q157, by decide⟩
theorem vX1_372 : ew_iV RX1 372 0 kX1_spareOf 2 := ⟨⟨_, rfl, ew_q qs40⟩, Or.inl (ew_q q2294), ew_q q2296, ⟨by decide +kernel, by decide +kernel⟩, by decide +kernel, w_X1_spareOf, ew_q q122, by decide⟩
theorem vX1_375 : ew_iV RX1 375 16 kJ3_setLength 1 := ⟨⟨_, rfl, ew_q q2314⟩, Or.inl (ew_q q2312), ew_q q2313, ⟨by decide +kernel, by decide +kernel⟩, by decide +kernel, w_J3_setLength, ew_q q126, by decide⟩
theorem vX1_378 : ew_iV RX1 378 16 kJ3_append_3 1 := ⟨⟨_, rfl, ew_q q738⟩, Or.inl (ew_q q2364), ew_q q737, ⟨by decide +kernel, by decide +kernel⟩, by decide +kernel, w_J3_append_3, ew_q q126, by decide⟩
theorem vX1_382 : ew_iV RX1 382 16 kJ3_append 1 := ⟨⟨_, rfl, ew_q q561⟩, Or.inl (ew_q q2365), ew_q q560, ⟨by decide +kernel, by decide +kernel⟩, by decide +kernel, w_J3_append, ew_q q126, by decide⟩
theorem vX1_385 : ew_iV RX1 385 16 kJ3_append_2 1 := ⟨⟨_, rfl, ew_q q703⟩, Or.inl (ew_q q2366), ew_q q702, ⟨by decide +kernel, by decide +kernel⟩, by decide +kernel, w_J3_append_2, ew_q q126, by decide⟩
theorem vX1_390 : ew_iV RX1 390 16 kJ3_length 0 := ⟨⟨_, rfl, ew_q q3348⟩, Or.inl (ew_q q2368), ew_q q676, ⟨by decide +kernel, by decide +kernel⟩, by decide +kernel, w_J3_length, ew_q q126, by decide⟩
theorem fX1_391 : ew_F RX1 391 9 1 := ⟨RX10, TX10, 4, "EventWindows$Step", rfl, by decide, in_X10, Or.inr ⟨"EventWindows", ew_qt q1750 rfl⟩, Or.inl rfl⟩
theorem tX1_394_19 : ew_iF RX1 394 19 kJ14_isEmpty 0 := ⟨_, ⟨"java/util/List", "isEmpty", "()Z"⟩, rfl, ew_q q2378, ew_qt q2380 rfl, ew_qt q2379 rfl, ew_q q2381, ew_q q2383, ew_qt q2384 rfl, ew_qt q2382 rfl, ew_qt q302 rfl, ⟨by decide +kernel, by decide +kernel⟩, by decide +kernel, w_J14_isEmpty, ew_q q139, by decide⟩
theorem fX1_398 : ew_F RX1 398 7 3 := ⟨RX8, TX8, 5, "EventWindows$Run", rfl, by decide, in_X8, Or.inr ⟨"EventWindows", ew_qt q1554 rfl⟩, Or.inl rfl⟩
theorem fX1_401 : ew_F RX1 401 7 2 := ⟨RX8, TX8, 5, "EventWindows$Run", rfl, by decide, in_X8, Or.inr ⟨"EventWindows", ew_qt q1552 rfl⟩, Or.inl rfl⟩
theorem vX1_404 : ew_iV RX1 404 16 kJ3_charAt 1 := ⟨⟨_, rfl, ew_q q2403⟩, Or.inl (ew_q q2401), ew_q q2402, ⟨by decide +kernel, by decide +kernel⟩, by decide +kernel, w_J3_charAt, ew_q q126, by decide⟩
theorem vX1_416 : ew_iV RX1 416 0 kX1_keep 0 := ⟨⟨_, rfl, ew_q qs41⟩, Or.inl (ew_q q2418), ew_q q2420, ⟨by decide +kernel, by decide +kernel⟩, by decide +kernel, w_X1_keep, ew_q q122, by decide⟩
theorem pX1_255 : ew_P RX1 255 4 2 .int false := ⟨RX5, TX5, 6, "EventWindows$Window", tyX5, rfl, by decide, in_X5, Or.inr ⟨rfl, ⟨"EventWindows", ew_qt q1400 rfl⟩⟩, Or.inl rfl, tyX5_ok, nmX5, tyX5_ok 2 (by decide), rfl, fun h => nomatch h⟩
theorem vX1_406 : ew_iV RX1 406 15 kJ1_removeFirst 0 := ⟨⟨_, rfl, ew_q q2424⟩, Or.inl (ew_q q2422), ew_q q2423, ⟨by decide +kernel, by decide +kernel⟩, by decide +kernel, w_J1_removeFirst, ew_q q124, by decide⟩
theorem vX1_409 : ew_iV RX1 409 5 kX6_copy 0 := ⟨⟨_, rfl, ew_q q2438⟩, Or.inl (ew_q q2436), ew_q q2437, ⟨by decide +kernel, by decide +kernel⟩, by decide +kernel, w_X6_copy, ew_q q157, by decide⟩
theorem vX1_412 : ew_iV RX1 412 15 kJ1_addLast 1 := ⟨⟨_, rfl, ew_q q2451⟩, Or.inl (ew_q q2449), ew_q q2450, ⟨by decide +kernel, by decide +kernel⟩, by decide +kernel, w_J1_addLast, ew_q q124, by decide⟩
theorem pX1_258 : ew_P RX1 258 4 3 .int false := ⟨RX5, TX5, 6, "EventWindows$Window", tyX5, rfl, by decide, in_X5, Or.inr ⟨rfl, ⟨"EventWindows", ew_qt q1403 rfl⟩⟩, Or.inl rfl, tyX5_ok, nmX5, tyX5_ok 3 (by decide), rfl, fun h => nomatch h⟩
theorem vX1_419 : ew_iV RX1 419 5 kX6_soft 0 := ⟨⟨_, rfl, ew_q q2486⟩, Or.inl (ew_q q2484), ew_q q2485, ⟨by decide +kernel, by decide +kernel⟩, by decide +kernel, w_X6_soft, ew_q q157, by decide⟩
theorem pX1_294 : ew_P RX1 294 4 4 .int false := ⟨RX5, TX5, 6, "EventWindows$Window", tyX5, rfl, by decide, in_X5, Or.inr ⟨rfl, ⟨"EventWindows", ew_qt q1406 rfl⟩⟩, Or.inl rfl, tyX5_ok, nmX5, tyX5_ok 4 (by decide), rfl, fun h => nomatch h⟩
theorem pX1_261 : ew_P RX1 261 4 5 .boolean false := ⟨RX5, TX5, 6, "EventWindows$Window", tyX5, rfl, by decide, in_X5, Or.inr ⟨rfl, ⟨"EventWindows", ew_qt q1409 rfl⟩⟩, Or.inl rfl, tyX5_ok, nmX5, tyX5_ok 5 (by decide), rfl, fun h => nomatch h⟩
theorem nX1_130 : ew_N RX1 130 4 [.int 0, .int 0, .int 0, .int 0, .int 0, .int 0] := ⟨RX5, TX5, 6, tyX5, rfl, in_X5, tyX5_ok, ew_q q1622, ew_q q1387, ew_q q156, rfl, fun j h => (show ∀ j, j < 6 → defaultValue (tyX5 j) = vp_V [.int 0, .int 0, .int 0, .int 0, .int 0, .int 0] j by decide) j h⟩
theorem iX1_422 : ew_iI RX1 422 kX5_init 5 := ⟨Or.inl (ew_q q2502), ew_q q1389, rfl, rfl, rfl, ⟨by decide +kernel, by decide +kernel⟩, by decide +kernel, w_X5_init, ew_q q156, by decide⟩
theorem vX1_425 : ew_iV RX1 425 4 kX5_tighten 1 := ⟨⟨_, rfl, ew_q q2540⟩, Or.inl (ew_q q2538), ew_q q2539, ⟨by decide +kernel, by decide +kernel⟩, by decide +kernel, w_X5_tighten, ew_q q156, by decide⟩
theorem fX1_429 : ew_F RX1 429 10 1 := ⟨RX11, TX11, 3, "EventWindows$Mend", rfl, by decide, in_X11, Or.inr ⟨"EventWindows", ew_qt q2045 rfl⟩, Or.inl rfl⟩
theorem fX1_431 : ew_F RX1 431 14 2 := ⟨RX15, TX15, 4, "EventWindows$Drop", rfl, by decide, in_X15, Or.inr ⟨"EventWindows", ew_qt q2162 rfl⟩, Or.inl rfl⟩
theorem vX1_432 : ew_iV RX1 432 15 kJ1_isEmpty 0 := ⟨⟨_, rfl, ew_q q2566⟩, Or.inl (ew_q q2564), ew_q q2565, ⟨by decide +kernel, by decide +kernel⟩, by decide +kernel, w_J1_isEmpty, ew_q q124, by decide⟩
theorem vX1_433 : ew_iV RX1 433 15 kJ1_removeLast 0 := ⟨⟨_, rfl, ew_q q2570⟩, Or.inl (ew_q q2568), ew_q q2569, ⟨by decide +kernel, by decide +kernel⟩, by decide +kernel, w_J1_removeLast, ew_q q124, by decide⟩
theorem iX10_1 : ew_iI RX10 1 kJ31_init 0 := ⟨Or.inl (ew_q q1745), ew_q q177, rfl, rfl, rfl, ⟨by decide +kernel, by decide +kernel⟩, by decide +kernel, w_J31_init, ew_q q3350, by decide⟩
theorem fX10_7 : ew_F RX10 7 9 0 := ⟨RX10, TX10, 4, "EventWindows$Step", rfl, by decide, in_X10, Or.inl (ew_q q1746), Or.inl rfl⟩
theorem pX10_7 : ew_P RX10 7 9 0 .int true := ⟨RX10, TX10, 4, "EventWindows$Step", tyX10, rfl, by decide, in_X10, Or.inl (ew_q q1746), Or.inl rfl, tyX10_ok, nmX10, tyX10_ok 0 (by decide), rfl, fun _ => rfl⟩
theorem fX10_13 : ew_F RX10 13 9 1 := ⟨RX10, TX10, 4, "EventWindows$Step", rfl, by decide, in_X10, Or.inl (ew_q q1748), Or.inl rfl⟩
theorem pX10_13 : ew_P RX10 13 9 1 .int true := ⟨RX10, TX10, 4, "EventWindows$Step", tyX10, rfl, by decide, in_X10, Or.inl (ew_q q1748), Or.inl rfl, tyX10_ok, nmX10, tyX10_ok 1 (by decide), rfl, fun _ => rfl⟩
theorem fX10_16 : ew_F RX10 16 9 2 := ⟨RX10, TX10, 4, "EventWindows$Step", rfl, by decide, in_X10, Or.inl (ew_q q1751), Or.inl rfl⟩
theorem pX10_16 : ew_P RX10 16 9 2 .int true := ⟨RX10, TX10, 4, "EventWindows$Step", tyX10, rfl, by decide, in_X10, Or.inl (ew_q q1751), Or.inl rfl, tyX10_ok, nmX10, tyX10_ok 2 (by decide), rfl, fun _ => rfl⟩
theorem fX10_19 : ew_F RX10 19 9 3 := ⟨RX10, TX10, 4, "EventWindows$Step", rfl, by decide, in_X10, Or.inl (ew_q q1753), Or.inl rfl⟩
theorem pX10_19 : ew_P RX10 19 9 3 .int true := ⟨RX10, TX10, 4, "EventWindows$Step", tyX10, rfl, by decide, in_X10, Or.inl (ew_q q1753), Or.inl rfl, tyX10_ok, nmX10, tyX10_ok 3 (by decide), rfl, fun _ => rfl⟩
theorem vX11_25 : ew_iV RX11 25 10 kX11_compareTo_2 1 := ⟨⟨_, rfl, ew_q q933⟩, Or.inl (ew_q q931), ew_q q932, ⟨by decide +kernel, by decide +kernel⟩, by decide +kernel, w_X11_compareTo_2, ew_q q163, by decide⟩
theorem fX11_16 : ew_F RX11 16 10 2 := ⟨RX11, TX11, 3, "EventWindows$Mend", rfl, by decide, in_X11, Or.inl (ew_q q2046), Or.inl rfl⟩
theorem sX11_19 : ew_iS RX11 19 kJ22_compare 2 := ⟨Or.inl (ew_q q935), ew_q q907, ⟨by decide +kernel, by decide +kernel⟩, by decide +kernel, w_J22_compare, ew_q q148, by decide⟩
theorem fX11_7 : ew_F RX11 7 10 0 := ⟨RX11, TX11, 3, "EventWindows$Mend", rfl, by decide, in_X11, Or.inl (ew_q q2042), Or.inl rfl⟩
theorem iX11_1 : ew_iI RX11 1 kJ31_init 0 := ⟨Or.inl (ew_q q2041), ew_q q177, rfl, rfl, rfl, ⟨by decide +kernel, by decide +kernel⟩, by decide +kernel, w_J31_init, ew_q q3350, by decide⟩
theorem pX11_7 : ew_P RX11 7 10 0 .int true := ⟨RX11, TX11, 3, "EventWindows$Mend", tyX11, rfl, by decide, in_X11, Or.inl (ew_q q2042), Or.inl rfl, tyX11_ok, nmX11, tyX11_ok 0 (by decide), rfl, fun _ => rfl⟩
theorem fX11_13 : ew_F RX11 13 10 1 := ⟨RX11, TX11, 3, "EventWindows$Mend", rfl, by decide, in_X11, Or.inl (ew_q q2044), Or.inl rfl⟩
theorem pX11_13 : ew_P RX11 13 10 1 .int true := ⟨RX11, TX11, 3, "EventWindows$Mend", tyX11, rfl, by decide, in_X11, Or.inl (ew_q q2044), Or.inl rfl, tyX11_ok, nmX11, tyX11_ok 1 (by decide), rfl, fun _ => rfl⟩
theorem pX11_16 : ew_P RX11 16 10 2 .int true := ⟨RX11, TX11, 3, "EventWindows$Mend", tyX11, rfl, by decide, in_X11, Or.inl (ew_q q2046), Or.inl rfl, tyX11_ok, nmX11, tyX11_ok 2 (by decide), rfl, fun _ => rfl⟩
theorem iX12_1 : ew_iI RX12 1 kJ31_init 0 := ⟨Or.inl (ew_q q2069), ew_q q177, rfl, rfl, rfl, ⟨by decide +kernel, by decide +kernel⟩, by decide +kernel, w_J31_init, ew_q q3350, by decide⟩
theorem fX12_7 : ew_F RX12 7 11 0 := ⟨RX12, TX12, 2, "EventWindows$Choice", rfl, by decide, in_X12, Or.inl (ew_q q2070), Or.inl rfl⟩
theorem pX12_7 : ew_P RX12 7 11 0 (.object "java/util/Comparator") true := ⟨RX12, TX12, 2, "EventWindows$Choice", tyX12, rfl, by decide, in_X12, Or.inl (ew_q q2070), Or.inl rfl, tyX12_ok, nmX12, tyX12_ok 0 (by decide), rfl, fun _ => rfl⟩
theorem tX12_23_19 : ew_iF RX12 23 19 kJ14_size 0 := ⟨_, ⟨"java/util/List", "size", "()I"⟩, rfl, ew_q q2082, ew_qt q301 rfl, ew_qt q300 rfl, ew_q q303, ew_q q305, ew_qt q306 rfl, ew_qt q304 rfl, ew_qt q302 rfl, ⟨by decide +kernel, by decide +kernel⟩, by decide +kernel, w_J14_size, ew_q q139, by decide⟩
theorem tX12_29_19 : ew_iF RX12 29 19 kJ14_get 1 := ⟨_, ⟨"java/util/List", "get", "(I)Ljava/lang/Object;"⟩, rfl, ew_q q2084, ew_qt q1428 rfl, ew_qt q1427 rfl, ew_q q1429, ew_q q1431, ew_qt q1432 rfl, ew_qt q1430 rfl, ew_qt q302 rfl, ⟨by decide +kernel, by decide +kernel⟩, by decide +kernel, w_J14_get, ew_q q139, by decide⟩
theorem vX12_33 : ew_iV RX12 33 11 kX12_offer 1 := ⟨⟨_, rfl, ew_q q2087⟩, Or.inl (ew_q q2085), ew_q q2086, ⟨by decide +kernel, by decide +kernel⟩, by decide +kernel, w_X12_offer, ew_q q164, by decide⟩
theorem fX12_13 : ew_F RX12 13 11 1 := ⟨RX12, TX12, 2, "EventWindows$Choice", rfl, by decide, in_X12, Or.inl (ew_q q2071), Or.inl rfl⟩
theorem tX12_17_12 : ew_iF RX12 17 12 kX13_compare 2 := ⟨_, ⟨"java/util/Comparator", "compare", "(Ljava/lang/Object;Ljava/lang/Object;)I"⟩, rfl, ew_q q2090, ew_qt q894 rfl, ew_qt q893 rfl, ew_q q910, ew_q q912, ew_qt q913 rfl, ew_qt q911 rfl, ew_qt q909 rfl, ⟨by decide +kernel, by decide +kernel⟩, by decide +kernel, w_X13_compare, ew_q q165, by decide⟩
theorem tX12_17_13 : ew_iF RX12 17 13 kX14_compare 2 := ⟨_, ⟨"java/util/Comparator", "compare", "(Ljava/lang/Object;Ljava/lang/Object;)I"⟩, rfl, ew_q q2090, ew_qt q894 rfl, ew_qt q893 rfl, ew_q q896, ew_q q898, ew_qt q899 rfl, ew_qt q897 rfl, ew_qt q895 rfl, ⟨by decide +kernel, by decide +kernel⟩, by decide +kernel, w_X14_compare, ew_q q168, by decide⟩
theorem pX12_13 : ew_P RX12 13 11 1 (.object "java/lang/Object") false := ⟨RX12, TX12, 2, "EventWindows$Choice", tyX12, rfl, by decide, in_X12, Or.inl (ew_q q2071), Or.inl rfl, tyX12_ok, nmX12, tyX12_ok 1 (by decide), rfl, fun h => nomatch h⟩
theorem vX13_13 : ew_iV RX13 13 12 kX13_compare_2 2 := ⟨⟨_, rfl, ew_q q918⟩, Or.inl (ew_q q916), ew_q q917, ⟨by decide +kernel, by decide +kernel⟩, by decide +kernel, w_X13_compare_2, ew_q q165, by decide⟩
theorem tX13_7_17 : ew_iF RX13 7 17 kJ4_compareTo 1 := ⟨_, ⟨"java/lang/Comparable", "compareTo", "(Ljava/lang/Object;)I"⟩, rfl, ew_q q921, ew_qt q923 rfl, ew_qt q922 rfl, ew_q q949, ew_q q951, ew_qt q952 rfl, ew_qt q950 rfl, ew_qt q948 rfl, ⟨by decide +kernel, by decide +kernel⟩, by decide +kernel, w_J4_compareTo, ew_q q127, by decide⟩
theorem tX13_7_10 : ew_iF RX13 7 10 kX11_compareTo 1 := ⟨_, ⟨"java/lang/Comparable", "compareTo", "(Ljava/lang/Object;)I"⟩, rfl, ew_q q921, ew_qt q923 rfl, ew_qt q922 rfl, ew_q q925, ew_q q927, ew_qt q928 rfl, ew_qt q926 rfl, ew_qt q924 rfl, ⟨by decide +kernel, by decide +kernel⟩, by decide +kernel, w_X11_compareTo, ew_q q163, by decide⟩
theorem iX13_1 : ew_iI RX13 1 kJ31_init 0 := ⟨Or.inl (ew_q q2064), ew_q q177, rfl, rfl, rfl, ⟨by decide +kernel, by decide +kernel⟩, by decide +kernel, w_J31_init, ew_q q3350, by decide⟩
theorem vX14_25 : ew_iV RX14 25 13 kX14_compare_2 2 := ⟨⟨_, rfl, ew_q q904⟩, Or.inl (ew_q q902), ew_q q903, ⟨by decide +kernel, by decide +kernel⟩, by decide +kernel, w_X14_compare_2, ew_q q168, by decide⟩
theorem fX14_7 : ew_F RX14 7 14 1 := ⟨RX15, TX15, 4, "EventWindows$Drop", rfl, by decide, in_X15, Or.inr ⟨"EventWindows", ew_qt q2158 rfl⟩, Or.inl rfl⟩
theorem sX14_13 : ew_iS RX14 13 kJ22_compare 2 := ⟨Or.inl (ew_q q906), ew_q q907, ⟨by decide +kernel, by decide +kernel⟩, by decide +kernel, w_J22_compare, ew_q q148, by decide⟩
theorem fX14_19 : ew_F RX14 19 14 2 := ⟨RX15, TX15, 4, "EventWindows$Drop", rfl, by decide, in_X15, Or.inr ⟨"EventWindows", ew_qt q2161 rfl⟩, Or.inl rfl⟩
theorem fX14_22 : ew_F RX14 22 14 0 := ⟨RX15, TX15, 4, "EventWindows$Drop", rfl, by decide, in_X15, Or.inr ⟨"EventWindows", ew_qt q2155 rfl⟩, Or.inl rfl⟩
theorem iX14_1 : ew_iI RX14 1 kJ31_init 0 := ⟨Or.inl (ew_q q2120), ew_q q177, rfl, rfl, rfl, ⟨by decide +kernel, by decide +kernel⟩, by decide +kernel, w_J31_init, ew_q q3350, by decide⟩
theorem iX15_1 : ew_iI RX15 1 kJ31_init 0 := ⟨Or.inl (ew_q q2153), ew_q q177, rfl, rfl, rfl, ⟨by decide +kernel, by decide +kernel⟩, by decide +kernel, w_J31_init, ew_q q3350, by decide⟩
theorem fX15_7 : ew_F RX15 7 14 0 := ⟨RX15, TX15, 4, "EventWindows$Drop", rfl, by decide, in_X15, Or.inl (ew_q q2154), Or.inl rfl⟩
theorem pX15_7 : ew_P RX15 7 14 0 .int true := ⟨RX15, TX15, 4, "EventWindows$Drop", tyX15, rfl, by decide, in_X15, Or.inl (ew_q q2154), Or.inl rfl, tyX15_ok, nmX15, tyX15_ok 0 (by decide), rfl, fun _ => rfl⟩
theorem fX15_13 : ew_F RX15 13 14 1 := ⟨RX15, TX15, 4, "EventWindows$Drop", rfl, by decide, in_X15, Or.inl (ew_q q2157), Or.inl rfl⟩
theorem pX15_13 : ew_P RX15 13 14 1 .int true := ⟨RX15, TX15, 4, "EventWindows$Drop", tyX15, rfl, by decide, in_X15, Or.inl (ew_q q2157), Or.inl rfl, tyX15_ok, nmX15, tyX15_ok 1 (by decide), rfl, fun _ => rfl⟩
theorem fX15_16 : ew_F RX15 16 14 2 := ⟨RX15, TX15, 4, "EventWindows$Drop", rfl, by decide, in_X15, Or.inl (ew_q q2160), Or.inl rfl⟩
theorem pX15_16 : ew_P RX15 16 14 2 .int true := ⟨RX15, TX15, 4, "EventWindows$Drop", tyX15, rfl, by decide, in_X15, Or.inl (ew_q q2160), Or.inl rfl, tyX15_ok, nmX15, tyX15_ok 2 (by decide), rfl, fun _ => rfl⟩
theorem fX15_19 : ew_F RX15 19 14 3 := ⟨RX15, TX15, 4, "EventWindows$Drop", rfl, by decide, in_X15, Or.inl (ew_q q2163), Or.inl rfl⟩
theorem pX15_19 : ew_P RX15 19 14 3 .int true := ⟨RX15, TX15, 4, "EventWindows$Drop", tyX15, rfl, by decide, in_X15, Or.inl (ew_q q2163), Or.inl rfl, tyX15_ok, nmX15, tyX15_ok 3 (by decide), rfl, fun _ => rfl⟩
theorem nX15_8 : ew_N RX15 8 14 [.int 0, .int 0, .int 0, .int 0] := ⟨RX15, TX15, 4, tyX15, rfl, in_X15, tyX15_ok, ew_q q2216, ew_q q2149, ew_q q169, rfl, fun j h => (show ∀ j, j < 4 → defaultValue (tyX15 j) = vp_V [.int 0, .int 0, .int 0, .int 0] j by decide) j h⟩
theorem iX15_22 : ew_iI RX15 22 kX15_init 4 := ⟨Or.inl (ew_q q2217), ew_q q2151, rfl, rfl, rfl, ⟨by decide +kernel, by decide +kernel⟩, by decide +kernel, w_X15_init, ew_q q169, by decide⟩
theorem iX2_1 : ew_iI RX2 1 kJ31_init 0 := ⟨Or.inl (ew_q q2598), ew_q q177, rfl, rfl, rfl, ⟨by decide +kernel, by decide +kernel⟩, by decide +kernel, w_J31_init, ew_q q3350, by decide⟩
theorem fX2_9 : ew_F RX2 9 1 1 := ⟨RX2, TX2, 42, "EventWindowsModel", rfl, by decide, in_X2, Or.inl (ew_q q2600), Or.inl rfl⟩
theorem pX2_9 : ew_P RX2 9 1 1 (.array .byte) true := ⟨RX2, TX2, 42, "EventWindowsModel", tyX2, rfl, by decide, in_X2, Or.inl (ew_q q2600), Or.inl rfl, tyX2_ok, nmX2, tyX2_ok 1 (by decide), rfl, fun _ => rfl⟩
theorem fX2_13 : ew_F RX2 13 1 4 := ⟨RX2, TX2, 42, "EventWindowsModel", rfl, by decide, in_X2, Or.inl (ew_q q2603), Or.inl rfl⟩
theorem pX2_13 : ew_P RX2 13 1 4 .int false := ⟨RX2, TX2, 42, "EventWindowsModel", tyX2, rfl, by decide, in_X2, Or.inl (ew_q q2603), Or.inl rfl, tyX2_ok, nmX2, tyX2_ok 4 (by decide), rfl, fun h => nomatch h⟩
theorem fX2_17 : ew_F RX2 17 1 10 := ⟨RX2, TX2, 42, "EventWindowsModel", rfl, by decide, in_X2, Or.inl (ew_q q2609), Or.inl rfl⟩
theorem pX2_17 : ew_P RX2 17 1 10 (.array .byte) true := ⟨RX2, TX2, 42, "EventWindowsModel", tyX2, rfl, by decide, in_X2, Or.inl (ew_q q2609), Or.inl rfl, tyX2_ok, nmX2, tyX2_ok 10 (by decide), rfl, fun _ => rfl⟩
theorem fX2_20 : ew_F RX2 20 1 11 := ⟨RX2, TX2, 42, "EventWindowsModel", rfl, by decide, in_X2, Or.inl (ew_q q2610), Or.inl rfl⟩
theorem pX2_20 : ew_P RX2 20 1 11 (.array .byte) true := ⟨RX2, TX2, 42, "EventWindowsModel", tyX2, rfl, by decide, in_X2, Or.inl (ew_q q2610), Or.inl rfl, tyX2_ok, nmX2, tyX2_ok 11 (by decide), rfl, fun _ => rfl⟩
theorem fX2_23 : ew_F RX2 23 1 16 := ⟨RX2, TX2, 42, "EventWindowsModel", rfl, by decide, in_X2, Or.inl (ew_q q2615), Or.inl rfl⟩
theorem pX2_23 : ew_P RX2 23 1 16 (.array .int) true := ⟨RX2, TX2, 42, "EventWindowsModel", tyX2, rfl, by decide, in_X2, Or.inl (ew_q q2615), Or.inl rfl, tyX2_ok, nmX2, tyX2_ok 16 (by decide), rfl, fun _ => rfl⟩
theorem fX2_27 : ew_F RX2 27 1 17 := ⟨RX2, TX2, 42, "EventWindowsModel", rfl, by decide, in_X2, Or.inl (ew_q q2616), Or.inl rfl⟩
theorem pX2_27 : ew_P RX2 27 1 17 (.array .int) true := ⟨RX2, TX2, 42, "EventWindowsModel", tyX2, rfl, by decide, in_X2, Or.inl (ew_q q2616), Or.inl rfl, tyX2_ok, nmX2, tyX2_ok 17 (by decide), rfl, fun _ => rfl⟩
theorem fX2_30 : ew_F RX2 30 1 18 := ⟨RX2, TX2, 42, "EventWindowsModel", rfl, by decide, in_X2, Or.inl (ew_q q2617), Or.inl rfl⟩
theorem pX2_30 : ew_P RX2 30 1 18 (.array .int) true := ⟨RX2, TX2, 42, "EventWindowsModel", tyX2, rfl, by decide, in_X2, Or.inl (ew_q q2617), Or.inl rfl, tyX2_ok, nmX2, tyX2_ok 18 (by decide), rfl, fun _ => rfl⟩
theorem fX2_33 : ew_F RX2 33 1 19 := ⟨RX2, TX2, 42, "EventWindowsModel", rfl, by decide, in_X2, Or.inl (ew_q q2618), Or.inl rfl⟩
theorem pX2_33 : ew_P RX2 33 1 19 (.array .int) true := ⟨RX2, TX2, 42, "EventWindowsModel", tyX2, rfl, by decide, in_X2, Or.inl (ew_q q2618), Or.inl rfl, tyX2_ok, nmX2, tyX2_ok 19 (by decide), rfl, fun _ => rfl⟩
theorem fX2_36 : ew_F RX2 36 1 20 := ⟨RX2, TX2, 42, "EventWindowsModel", rfl, by decide, in_X2, Or.inl (ew_q q2619), Or.inl rfl⟩
theorem pX2_36 : ew_P RX2 36 1 20 (.array .boolean) true := ⟨RX2, TX2, 42, "EventWindowsModel", tyX2, rfl, by decide, in_X2, Or.inl (ew_q q2619), Or.inl rfl, tyX2_ok, nmX2, tyX2_ok 20 (by decide), rfl, fun _ => rfl⟩
theorem fX2_40 : ew_F RX2 40 1 23 := ⟨RX2, TX2, 42, "EventWindowsModel", rfl, by decide, in_X2, Or.inl (ew_q q2622), Or.inl rfl⟩
theorem pX2_40 : ew_P RX2 40 1 23 (.array .int) true := ⟨RX2, TX2, 42, "EventWindowsModel", tyX2, rfl, by decide, in_X2, Or.inl (ew_q q2622), Or.inl rfl, tyX2_ok, nmX2, tyX2_ok 23 (by decide), rfl, fun _ => rfl⟩
theorem fX2_43 : ew_F RX2 43 1 24 := ⟨RX2, TX2, 42, "EventWindowsModel", rfl, by decide, in_X2, Or.inl (ew_q q2623), Or.inl rfl⟩
theorem pX2_43 : ew_P RX2 43 1 24 (.array .int) true := ⟨RX2, TX2, 42, "EventWindowsModel", tyX2, rfl, by decide, in_X2, Or.inl (ew_q q2623), Or.inl rfl, tyX2_ok, nmX2, tyX2_ok 24 (by decide), rfl, fun _ => rfl⟩
theorem fX2_46 : ew_F RX2 46 1 25 := ⟨RX2, TX2, 42, "EventWindowsModel", rfl, by decide, in_X2, Or.inl (ew_q q2624), Or.inl rfl⟩
theorem pX2_46 : ew_P RX2 46 1 25 (.array .int) true := ⟨RX2, TX2, 42, "EventWindowsModel", tyX2, rfl, by decide, in_X2, Or.inl (ew_q q2624), Or.inl rfl, tyX2_ok, nmX2, tyX2_ok 25 (by decide), rfl, fun _ => rfl⟩
theorem fX2_49 : ew_F RX2 49 1 26 := ⟨RX2, TX2, 42, "EventWindowsModel", rfl, by decide, in_X2, Or.inl (ew_q q2625), Or.inl rfl⟩
theorem pX2_49 : ew_P RX2 49 1 26 (.array .int) true := ⟨RX2, TX2, 42, "EventWindowsModel", tyX2, rfl, by decide, in_X2, Or.inl (ew_q q2625), Or.inl rfl, tyX2_ok, nmX2, tyX2_ok 26 (by decide), rfl, fun _ => rfl⟩
theorem fX2_52 : ew_F RX2 52 1 27 := ⟨RX2, TX2, 42, "EventWindowsModel", rfl, by decide, in_X2, Or.inl (ew_q q2626), Or.inl rfl⟩
theorem pX2_52 : ew_P RX2 52 1 27 (.array .int) true := ⟨RX2, TX2, 42, "EventWindowsModel", tyX2, rfl, by decide, in_X2, Or.inl (ew_q q2626), Or.inl rfl, tyX2_ok, nmX2, tyX2_ok 27 (by decide), rfl, fun _ => rfl⟩
theorem fX2_55 : ew_F RX2 55 1 29 := ⟨RX2, TX2, 42, "EventWindowsModel", rfl, by decide, in_X2, Or.inl (ew_q q2628), Or.inl rfl⟩
theorem pX2_55 : ew_P RX2 55 1 29 (.array .int) true := ⟨RX2, TX2, 42, "EventWindowsModel", tyX2, rfl, by decide, in_X2, Or.inl (ew_q q2628), Or.inl rfl, tyX2_ok, nmX2, tyX2_ok 29 (by decide), rfl, fun _ => rfl⟩
theorem fX2_58 : ew_F RX2 58 1 30 := ⟨RX2, TX2, 42, "EventWindowsModel", rfl, by decide, in_X2, Or.inl (ew_q q2629), Or.inl rfl⟩
theorem pX2_58 : ew_P RX2 58 1 30 (.array .int) true := ⟨RX2, TX2, 42, "EventWindowsModel", tyX2, rfl, by decide, in_X2, Or.inl (ew_q q2629), Or.inl rfl, tyX2_ok, nmX2, tyX2_ok 30 (by decide), rfl, fun _ => rfl⟩
theorem fX2_61 : ew_F RX2 61 1 31 := ⟨RX2, TX2, 42, "EventWindowsModel", rfl, by decide, in_X2, Or.inl (ew_q q2630), Or.inl rfl⟩
theorem pX2_61 : ew_P RX2 61 1 31 (.array .int) true := ⟨RX2, TX2, 42, "EventWindowsModel", tyX2, rfl, by decide, in_X2, Or.inl (ew_q q2630), Or.inl rfl, tyX2_ok, nmX2, tyX2_ok 31 (by decide), rfl, fun _ => rfl⟩
theorem fX2_64 : ew_F RX2 64 1 32 := ⟨RX2, TX2, 42, "EventWindowsModel", rfl, by decide, in_X2, Or.inl (ew_q q2631), Or.inl rfl⟩
theorem pX2_64 : ew_P RX2 64 1 32 (.array .int) true := ⟨RX2, TX2, 42, "EventWindowsModel", tyX2, rfl, by decide, in_X2, Or.inl (ew_q q2631), Or.inl rfl, tyX2_ok, nmX2, tyX2_ok 32 (by decide), rfl, fun _ => rfl⟩
theorem fX2_67 : ew_F RX2 67 1 38 := ⟨RX2, TX2, 42, "EventWindowsModel", rfl, by decide, in_X2, Or.inl (ew_q q2637), Or.inl rfl⟩
theorem pX2_67 : ew_P RX2 67 1 38 (.array .int) true := ⟨RX2, TX2, 42, "EventWindowsModel", tyX2, rfl, by decide, in_X2, Or.inl (ew_q q2637), Or.inl rfl, tyX2_ok, nmX2, tyX2_ok 38 (by decide), rfl, fun _ => rfl⟩
theorem fX2_70 : ew_F RX2 70 1 40 := ⟨RX2, TX2, 42, "EventWindowsModel", rfl, by decide, in_X2, Or.inl (ew_q q2639), Or.inl rfl⟩
theorem pX2_70 : ew_P RX2 70 1 40 (.array .byte) true := ⟨RX2, TX2, 42, "EventWindowsModel", tyX2, rfl, by decide, in_X2, Or.inl (ew_q q2639), Or.inl rfl, tyX2_ok, nmX2, tyX2_ok 40 (by decide), rfl, fun _ => rfl⟩
theorem fX2_73 : ew_F RX2 73 1 0 := ⟨RX2, TX2, 42, "EventWindowsModel", rfl, by decide, in_X2, Or.inl (ew_q q2599), Or.inl rfl⟩
theorem pX2_73 : ew_P RX2 73 1 0 .int false := ⟨RX2, TX2, 42, "EventWindowsModel", tyX2, rfl, by decide, in_X2, Or.inl (ew_q q2599), Or.inl rfl, tyX2_ok, nmX2, tyX2_ok 0 (by decide), rfl, fun h => nomatch h⟩
theorem fX2_76 : ew_F RX2 76 1 2 := ⟨RX2, TX2, 42, "EventWindowsModel", rfl, by decide, in_X2, Or.inl (ew_q q2601), Or.inl rfl⟩
theorem vX2_79 : ew_iV RX2 79 1 kX2_four 1 := ⟨⟨_, rfl, ew_q qs44⟩, Or.inl (ew_q q2735), ew_q q2737, ⟨by decide +kernel, by decide +kernel⟩, by decide +kernel, w_X2_four, ew_q q129, by decide⟩
theorem pX2_76 : ew_P RX2 76 1 2 .int false := ⟨RX2, TX2, 42, "EventWindowsModel", tyX2, rfl, by decide, in_X2, Or.inl (ew_q q2601), Or.inl rfl, tyX2_ok, nmX2, tyX2_ok 2 (by decide), rfl, fun h => nomatch h⟩
theorem fX2_83 : ew_F RX2 83 1 3 := ⟨RX2, TX2, 42, "EventWindowsModel", rfl, by decide, in_X2, Or.inl (ew_q q2602), Or.inl rfl⟩
theorem sX2_102 : ew_iS RX2 102 kX2_in 3 := ⟨Or.inl (ew_q q2755), ew_q q2756, ⟨by decide +kernel, by decide +kernel⟩, by decide +kernel, w_X2_in, ew_q q129, by decide⟩
theorem fX2_86 : ew_F RX2 86 1 5 := ⟨RX2, TX2, 42, "EventWindowsModel", rfl, by decide, in_X2, Or.inl (ew_q q2604), Or.inl rfl⟩
theorem pX2_86 : ew_P RX2 86 1 5 .int false := ⟨RX2, TX2, 42, "EventWindowsModel", tyX2, rfl, by decide, in_X2, Or.inl (ew_q q2604), Or.inl rfl, tyX2_ok, nmX2, tyX2_ok 5 (by decide), rfl, fun h => nomatch h⟩
theorem fX2_89 : ew_F RX2 89 1 7 := ⟨RX2, TX2, 42, "EventWindowsModel", rfl, by decide, in_X2, Or.inl (ew_q q2606), Or.inl rfl⟩
theorem pX2_89 : ew_P RX2 89 1 7 .int false := ⟨RX2, TX2, 42, "EventWindowsModel", tyX2, rfl, by decide, in_X2, Or.inl (ew_q q2606), Or.inl rfl, tyX2_ok, nmX2, tyX2_ok 7 (by decide), rfl, fun h => nomatch h⟩
theorem pX2_83 : ew_P RX2 83 1 3 .int false := ⟨RX2, TX2, 42, "EventWindowsModel", tyX2, rfl, by decide, in_X2, Or.inl (ew_q q2602), Or.inl rfl, tyX2_ok, nmX2, tyX2_ok 3 (by decide), rfl, fun h => nomatch h⟩
theorem fX2_165 : ew_F RX2 165 1 12 := ⟨RX2, TX2, 42, "EventWindowsModel", rfl, by decide, in_X2, Or.inl (ew_q q2611), Or.inl rfl⟩
theorem pX2_165 : ew_P RX2 165 1 12 .int false := ⟨RX2, TX2, 42, "EventWindowsModel", tyX2, rfl, by decide, in_X2, Or.inl (ew_q q2611), Or.inl rfl, tyX2_ok, nmX2, tyX2_ok 12 (by decide), rfl, fun h => nomatch h⟩
theorem fX2_168 : ew_F RX2 168 1 13 := ⟨RX2, TX2, 42, "EventWindowsModel", rfl, by decide, in_X2, Or.inl (ew_q q2612), Or.inl rfl⟩
theorem pX2_168 : ew_P RX2 168 1 13 .int false := ⟨RX2, TX2, 42, "EventWindowsModel", tyX2, rfl, by decide, in_X2, Or.inl (ew_q q2612), Or.inl rfl, tyX2_ok, nmX2, tyX2_ok 13 (by decide), rfl, fun h => nomatch h⟩
theorem fX2_171 : ew_F RX2 171 1 14 := ⟨RX2, TX2, 42, "EventWindowsModel", rfl, by decide, in_X2, Or.inl (ew_q q2613), Or.inl rfl⟩
theorem pX2_171 : ew_P RX2 171 1 14 .int false := ⟨RX2, TX2, 42, "EventWindowsModel", tyX2, rfl, by decide, in_X2, Or.inl (ew_q q2613), Or.inl rfl, tyX2_ok, nmX2, tyX2_ok 14 (by decide), rfl, fun h => nomatch h⟩
theorem fX2_155 : ew_F RX2 155 1 15 := ⟨RX2, TX2, 42, "EventWindowsModel", rfl, by decide, in_X2, Or.inl (ew_q q2614), Or.inl rfl⟩
theorem pX2_155 : ew_P RX2 155 1 15 .int false := ⟨RX2, TX2, 42, "EventWindowsModel", tyX2, rfl, by decide, in_X2, Or.inl (ew_q q2614), Or.inl rfl, tyX2_ok, nmX2, tyX2_ok 15 (by decide), rfl, fun h => nomatch h⟩
theorem sX2_200 : ew_iS RX2 200 kX2_copies 4 := ⟨Or.inl (ew_q q2758), ew_q q2759, ⟨by decide +kernel, by decide +kernel⟩, by decide +kernel, w_X2_copies, ew_q q129, by decide⟩
theorem vX2_204 : ew_iV RX2 204 1 kX2_readText 0 := ⟨⟨_, rfl, ew_q qs45⟩, Or.inl (ew_q q2761), ew_q q2763, ⟨by decide +kernel, by decide +kernel⟩, by decide +kernel, w_X2_readText, ew_q q129, by decide⟩
theorem fX2_207 : ew_F RX2 207 1 21 := ⟨RX2, TX2, 42, "EventWindowsModel", rfl, by decide, in_X2, Or.inl (ew_q q2620), Or.inl rfl⟩
theorem pX2_207 : ew_P RX2 207 1 21 .boolean false := ⟨RX2, TX2, 42, "EventWindowsModel", tyX2, rfl, by decide, in_X2, Or.inl (ew_q q2620), Or.inl rfl, tyX2_ok, nmX2, tyX2_ok 21 (by decide), rfl, fun h => nomatch h⟩
theorem fX2_211 : ew_F RX2 211 1 22 := ⟨RX2, TX2, 42, "EventWindowsModel", rfl, by decide, in_X2, Or.inl (ew_q q2621), Or.inl rfl⟩
theorem pX2_211 : ew_P RX2 211 1 22 .int false := ⟨RX2, TX2, 42, "EventWindowsModel", tyX2, rfl, by decide, in_X2, Or.inl (ew_q q2621), Or.inl rfl, tyX2_ok, nmX2, tyX2_ok 22 (by decide), rfl, fun h => nomatch h⟩
theorem vX2_122 : ew_iV RX2 122 1 kX2_nextToken 0 := ⟨⟨_, rfl, ew_q qs46⟩, Or.inl (ew_q q2765), ew_q q2767, ⟨by decide +kernel, by decide +kernel⟩, by decide +kernel, w_X2_nextToken, ew_q q129, by decide⟩
theorem vX2_151 : ew_iV RX2 151 1 kX2_isWord 1 := ⟨⟨_, rfl, ew_q qs48⟩, Or.inl (ew_q q2774), ew_q q2776, ⟨by decide +kernel, by decide +kernel⟩, by decide +kernel, w_X2_isWord, ew_q q129, by decide⟩
theorem vX2_119 : ew_iV RX2 119 1 kX2_faults 1 := ⟨⟨_, rfl, ew_q qs49⟩, Or.inl (ew_q q2780), ew_q q2782, ⟨by decide +kernel, by decide +kernel⟩, by decide +kernel, w_X2_faults, ew_q q129, by decide⟩
theorem vX2_139 : ew_iV RX2 139 1 kX2_readName 0 := ⟨⟨_, rfl, ew_q qs50⟩, Or.inl (ew_q q2784), ew_q q2786, ⟨by decide +kernel, by decide +kernel⟩, by decide +kernel, w_X2_readName, ew_q q129, by decide⟩
theorem fX2_99 : ew_F RX2 99 1 8 := ⟨RX2, TX2, 42, "EventWindowsModel", rfl, by decide, in_X2, Or.inl (ew_q q2607), Or.inl rfl⟩
theorem vX2_177 : ew_iV RX2 177 1 kX2_readEvent 0 := ⟨⟨_, rfl, ew_q qs54⟩, Or.inl (ew_q q2801), ew_q q2803, ⟨by decide +kernel, by decide +kernel⟩, by decide +kernel, w_X2_readEvent, ew_q q129, by decide⟩
theorem vX2_182 : ew_iV RX2 182 1 kX2_readWindow 0 := ⟨⟨_, rfl, ew_q qs55⟩, Or.inl (ew_q q2806), ew_q q2808, ⟨by decide +kernel, by decide +kernel⟩, by decide +kernel, w_X2_readWindow, ew_q q129, by decide⟩
theorem vX2_187 : ew_iV RX2 187 1 kX2_readFix 0 := ⟨⟨_, rfl, ew_q qs59⟩, Or.inl (ew_q q2830), ew_q q2832, ⟨by decide +kernel, by decide +kernel⟩, by decide +kernel, w_X2_readFix, ew_q q129, by decide⟩
theorem vX2_192 : ew_iV RX2 192 1 kX2_readDelay 0 := ⟨⟨_, rfl, ew_q qs60⟩, Or.inl (ew_q q2835), ew_q q2837, ⟨by decide +kernel, by decide +kernel⟩, by decide +kernel, w_X2_readDelay, ew_q q129, by decide⟩
theorem vX2_197 : ew_iV RX2 197 1 kX2_readWish 0 := ⟨⟨_, rfl, ew_q qs61⟩, Or.inl (ew_q q2840), ew_q q2842, ⟨by decide +kernel, by decide +kernel⟩, by decide +kernel, w_X2_readWish, ew_q q129, by decide⟩
theorem vX2_92 : ew_iV RX2 92 1 kX2_byteAt 1 := ⟨⟨_, rfl, ew_q qs47⟩, Or.inl (ew_q q2769), ew_q q2771, ⟨by decide +kernel, by decide +kernel⟩, by decide +kernel, w_X2_byteAt, ew_q q129, by decide⟩
theorem fX2_96 : ew_F RX2 96 1 6 := ⟨RX2, TX2, 42, "EventWindowsModel", rfl, by decide, in_X2, Or.inl (ew_q q2605), Or.inl rfl⟩
theorem pX2_96 : ew_P RX2 96 1 6 .int false := ⟨RX2, TX2, 42, "EventWindowsModel", tyX2, rfl, by decide, in_X2, Or.inl (ew_q q2605), Or.inl rfl, tyX2_ok, nmX2, tyX2_ok 6 (by decide), rfl, fun h => nomatch h⟩
theorem pX2_99 : ew_P RX2 99 1 8 .int false := ⟨RX2, TX2, 42, "EventWindowsModel", tyX2, rfl, by decide, in_X2, Or.inl (ew_q q2607), Or.inl rfl, tyX2_ok, nmX2, tyX2_ok 8 (by decide), rfl, fun h => nomatch h⟩
theorem fX2_106 : ew_F RX2 106 1 9 := ⟨RX2, TX2, 42, "EventWindowsModel", rfl, by decide, in_X2, Or.inl (ew_q q2608), Or.inl rfl⟩
theorem pX2_106 : ew_P RX2 106 1 9 .int false := ⟨RX2, TX2, 42, "EventWindowsModel", tyX2, rfl, by decide, in_X2, Or.inl (ew_q q2608), Or.inl rfl, tyX2_ok, nmX2, tyX2_ok 9 (by decide), rfl, fun h => nomatch h⟩
theorem vX2_109 : ew_iV RX2 109 17 kJ4_length 0 := ⟨⟨_, rfl, ew_q q752⟩, Or.inl (ew_q q2778), ew_q q751, ⟨by decide +kernel, by decide +kernel⟩, by decide +kernel, w_J4_length, ew_q q127, by decide⟩
theorem vX2_115 : ew_iV RX2 115 17 kJ4_charAt 1 := ⟨⟨_, rfl, ew_q q866⟩, Or.inl (ew_q q2779), ew_q q865, ⟨by decide +kernel, by decide +kernel⟩, by decide +kernel, w_J4_charAt, ew_q q127, by decide⟩
theorem vX2_132 : ew_iV RX2 132 1 kX2_eventHere 0 := ⟨⟨_, rfl, ew_q qs51⟩, Or.inl (ew_q q2788), ew_q q2790, ⟨by decide +kernel, by decide +kernel⟩, by decide +kernel, w_X2_eventHere, ew_q q129, by decide⟩
theorem vX2_128 : ew_iV RX2 128 1 kX2_isNamed 1 := ⟨⟨_, rfl, ew_q qs52⟩, Or.inl (ew_q q2792), ew_q q2794, ⟨by decide +kernel, by decide +kernel⟩, by decide +kernel, w_X2_isNamed, ew_q q129, by decide⟩
theorem vX2_125 : ew_iV RX2 125 1 kX2_lettersOf 1 := ⟨⟨_, rfl, ew_q qs53⟩, Or.inl (ew_q q2796), ew_q q2798, ⟨by decide +kernel, by decide +kernel⟩, by decide +kernel, w_X2_lettersOf, ew_q q129, by decide⟩
theorem vX2_142 : ew_iV RX2 142 1 kX2_event 1 := ⟨⟨_, rfl, ew_q qs56⟩, Or.inl (ew_q q2810), ew_q q2812, ⟨by decide +kernel, by decide +kernel⟩, by decide +kernel, w_X2_event, ew_q q129, by decide⟩
theorem vX2_145 : ew_iV RX2 145 1 kX2_number 2 := ⟨⟨_, rfl, ew_q qs57⟩, Or.inl (ew_q q2817), ew_q q2819, ⟨by decide +kernel, by decide +kernel⟩, by decide +kernel, w_X2_number, ew_q q129, by decide⟩
theorem vX2_158 : ew_iV RX2 158 1 kX2_lays 5 := ⟨⟨_, rfl, ew_q qs58⟩, Or.inl (ew_q q2822), ew_q q2824, ⟨by decide +kernel, by decide +kernel⟩, by decide +kernel, w_X2_lays, ew_q q129, by decide⟩
theorem sX2_135 : ew_iS RX2 135 kX2_has 2 := ⟨Or.inl (ew_q q2814), ew_q q2815, ⟨by decide +kernel, by decide +kernel⟩, by decide +kernel, w_X2_has, ew_q q129, by decide⟩
theorem sX2_162 : ew_iS RX2 162 kX2_at 2 := ⟨Or.inl (ew_q q2826), ew_q q2827, ⟨by decide +kernel, by decide +kernel⟩, by decide +kernel, w_X2_at, ew_q q129, by decide⟩
theorem vX2_230 : ew_iV RX2 230 1 kX2_eventsNow 0 := ⟨⟨_, rfl, ew_q qs62⟩, Or.inl (ew_q q2848), ew_q q2850, ⟨by decide +kernel, by decide +kernel⟩, by decide +kernel, w_X2_eventsNow, ew_q q129, by decide⟩
theorem vX2_285 : ew_iV RX2 285 1 kX2_given 1 := ⟨⟨_, rfl, ew_q qs63⟩, Or.inl (ew_q q2852), ew_q q2854, ⟨by decide +kernel, by decide +kernel⟩, by decide +kernel, w_X2_given, ew_q q129, by decide⟩
theorem vX2_220 : ew_iV RX2 220 1 kX2_windowsNow 0 := ⟨⟨_, rfl, ew_q qs64⟩, Or.inl (ew_q q2860), ew_q q2862, ⟨by decide +kernel, by decide +kernel⟩, by decide +kernel, w_X2_windowsNow, ew_q q129, by decide⟩
theorem vX2_288 : ew_iV RX2 288 1 kX2_isEvent 1 := ⟨⟨_, rfl, ew_q qs65⟩, Or.inl (ew_q q2868), ew_q q2870, ⟨by decide +kernel, by decide +kernel⟩, by decide +kernel, w_X2_isEvent, ew_q q129, by decide⟩
theorem vX2_291 : ew_iV RX2 291 1 kX2_mayAsk 1 := ⟨⟨_, rfl, ew_q qs66⟩, Or.inl (ew_q q2872), ew_q q2874, ⟨by decide +kernel, by decide +kernel⟩, by decide +kernel, w_X2_mayAsk, ew_q q129, by decide⟩
theorem vX2_295 : ew_iV RX2 295 1 kX2_isWindow 1 := ⟨⟨_, rfl, ew_q qs67⟩, Or.inl (ew_q q2880), ew_q q2882, ⟨by decide +kernel, by decide +kernel⟩, by decide +kernel, w_X2_isWindow, ew_q q129, by decide⟩
theorem vX2_298 : ew_iV RX2 298 1 kX2_mayAskFor 2 := ⟨⟨_, rfl, ew_q qs68⟩, Or.inl (ew_q q2884), ew_q q2886, ⟨by decide +kernel, by decide +kernel⟩, by decide +kernel, w_X2_mayAskFor, ew_q q129, by decide⟩
theorem vX2_214 : ew_iV RX2 214 1 kX2_of 2 := ⟨⟨_, rfl, ew_q qs69⟩, Or.inl (ew_q q2888), ew_q q2890, ⟨by decide +kernel, by decide +kernel⟩, by decide +kernel, w_X2_of, ew_q q129, by decide⟩
theorem vX2_276 : ew_iV RX2 276 1 kX2_boundsNow 0 := ⟨⟨_, rfl, ew_q qs70⟩, Or.inl (ew_q q2908), ew_q q2910, ⟨by decide +kernel, by decide +kernel⟩, by decide +kernel, w_X2_boundsNow, ew_q q129, by decide⟩
theorem vX2_254 : ew_iV RX2 254 1 kX2_timesAsFixed 0 := ⟨⟨_, rfl, ew_q qs71⟩, Or.inl (ew_q q2912), ew_q q2914, ⟨by decide +kernel, by decide +kernel⟩, by decide +kernel, w_X2_timesAsFixed, ew_q q129, by decide⟩
theorem vX2_257 : ew_iV RX2 257 1 kX2_boundsWithout 2 := ⟨⟨_, rfl, ew_q qs72⟩, Or.inl (ew_q q2916), ew_q q2918, ⟨by decide +kernel, by decide +kernel⟩, by decide +kernel, w_X2_boundsWithout, ew_q q129, by decide⟩
theorem vX2_246 : ew_iV RX2 246 1 kX2_stepsWithout 2 := ⟨⟨_, rfl, ew_q qs73⟩, Or.inl (ew_q q2920), ew_q q2922, ⟨by decide +kernel, by decide +kernel⟩, by decide +kernel, w_X2_stepsWithout, ew_q q129, by decide⟩
theorem vX2_250 : ew_iV RX2 250 1 kX2_bounds 0 := ⟨⟨_, rfl, ew_q qs76⟩, Or.inl (ew_q q2932), ew_q q2934, ⟨by decide +kernel, by decide +kernel⟩, by decide +kernel, w_X2_bounds, ew_q q129, by decide⟩
theorem fX2_217 : ew_F RX2 217 1 28 := ⟨RX2, TX2, 42, "EventWindowsModel", rfl, by decide, in_X2, Or.inl (ew_q q2627), Or.inl rfl⟩
theorem pX2_217 : ew_P RX2 217 1 28 .int false := ⟨RX2, TX2, 42, "EventWindowsModel", tyX2, rfl, by decide, in_X2, Or.inl (ew_q q2627), Or.inl rfl, tyX2_ok, nmX2, tyX2_ok 28 (by decide), rfl, fun h => nomatch h⟩
theorem vX2_223 : ew_iV RX2 223 1 kX2_isDropped 1 := ⟨⟨_, rfl, ew_q qs74⟩, Or.inl (ew_q q2924), ew_q q2926, ⟨by decide +kernel, by decide +kernel⟩, by decide +kernel, w_X2_isDropped, ew_q q129, by decide⟩
theorem vX2_226 : ew_iV RX2 226 1 kX2_step 4 := ⟨⟨_, rfl, ew_q qs75⟩, Or.inl (ew_q q2928), ew_q q2930, ⟨by decide +kernel, by decide +kernel⟩, by decide +kernel, w_X2_step, ew_q q129, by decide⟩
theorem sX2_237 : ew_iS RX2 237 kJ16_min 2 := ⟨Or.inl (ew_q q2937), ew_q q596, ⟨by decide +kernel, by decide +kernel⟩, by decide +kernel, w_J16_min, ew_q q141, by decide⟩
theorem vX2_242 : ew_iV RX2 242 1 kX2_joins 3 := ⟨⟨_, rfl, ew_q qs77⟩, Or.inl (ew_q q2938), ew_q q2940, ⟨by decide +kernel, by decide +kernel⟩, by decide +kernel, w_X2_joins, ew_q q129, by decide⟩
theorem vX2_233 : ew_iV RX2 233 1 kX2_boundOf 2 := ⟨⟨_, rfl, ew_q qs78⟩, Or.inl (ew_q q2942), ew_q q2944, ⟨by decide +kernel, by decide +kernel⟩, by decide +kernel, w_X2_boundOf, ew_q q129, by decide⟩
theorem vX2_302 : ew_iV RX2 302 1 kX2_round 0 := ⟨⟨_, rfl, ew_q qs79⟩, Or.inl (ew_q q2950), ew_q q2952, ⟨by decide +kernel, by decide +kernel⟩, by decide +kernel, w_X2_round, ew_q q129, by decide⟩
theorem fX2_264 : ew_F RX2 264 1 33 := ⟨RX2, TX2, 42, "EventWindowsModel", rfl, by decide, in_X2, Or.inl (ew_q q2632), Or.inl rfl⟩
theorem pX2_264 : ew_P RX2 264 1 33 .int false := ⟨RX2, TX2, 42, "EventWindowsModel", tyX2, rfl, by decide, in_X2, Or.inl (ew_q q2632), Or.inl rfl, tyX2_ok, nmX2, tyX2_ok 33 (by decide), rfl, fun h => nomatch h⟩
theorem fX2_267 : ew_F RX2 267 1 34 := ⟨RX2, TX2, 42, "EventWindowsModel", rfl, by decide, in_X2, Or.inl (ew_q q2633), Or.inl rfl⟩
theorem pX2_267 : ew_P RX2 267 1 34 .int false := ⟨RX2, TX2, 42, "EventWindowsModel", tyX2, rfl, by decide, in_X2, Or.inl (ew_q q2633), Or.inl rfl, tyX2_ok, nmX2, tyX2_ok 34 (by decide), rfl, fun h => nomatch h⟩
theorem vX2_270 : ew_iV RX2 270 1 kX2_exactly 0 := ⟨⟨_, rfl, ew_q qs80⟩, Or.inl (ew_q q2954), ew_q q2956, ⟨by decide +kernel, by decide +kernel⟩, by decide +kernel, w_X2_exactly, ew_q q129, by decide⟩
theorem vX2_279 : ew_iV RX2 279 1 kX2_roundOf 1 := ⟨⟨_, rfl, ew_q qs82⟩, Or.inl (ew_q q2962), ew_q q2964, ⟨by decide +kernel, by decide +kernel⟩, by decide +kernel, w_X2_roundOf, ew_q q129, by decide⟩
theorem fX2_282 : ew_F RX2 282 1 35 := ⟨RX2, TX2, 42, "EventWindowsModel", rfl, by decide, in_X2, Or.inl (ew_q q2634), Or.inl rfl⟩
theorem pX2_282 : ew_P RX2 282 1 35 .int false := ⟨RX2, TX2, 42, "EventWindowsModel", tyX2, rfl, by decide, in_X2, Or.inl (ew_q q2634), Or.inl rfl, tyX2_ok, nmX2, tyX2_ok 35 (by decide), rfl, fun h => nomatch h⟩
theorem vX2_273 : ew_iV RX2 273 1 kX2_rowOf 3 := ⟨⟨_, rfl, ew_q qs83⟩, Or.inl (ew_q q2966), ew_q q2968, ⟨by decide +kernel, by decide +kernel⟩, by decide +kernel, w_X2_rowOf, ew_q q129, by decide⟩
theorem vX2_260 : ew_iV RX2 260 1 kX2_exactOf 3 := ⟨⟨_, rfl, ew_q qs81⟩, Or.inl (ew_q q2958), ew_q q2960, ⟨by decide +kernel, by decide +kernel⟩, by decide +kernel, w_X2_exactOf, ew_q q129, by decide⟩
theorem vX2_311 : ew_iV RX2 311 1 kX2_areEvents 2 := ⟨⟨_, rfl, ew_q qs84⟩, Or.inl (ew_q q2982), ew_q q2984, ⟨by decide +kernel, by decide +kernel⟩, by decide +kernel, w_X2_areEvents, ew_q q129, by decide⟩
theorem vX2_314 : ew_iV RX2 314 1 kX2_maySee 1 := ⟨⟨_, rfl, ew_q qs85⟩, Or.inl (ew_q q2986), ew_q q2988, ⟨by decide +kernel, by decide +kernel⟩, by decide +kernel, w_X2_maySee, ew_q q129, by decide⟩
theorem vX2_317 : ew_iV RX2 317 1 kX2_mostOf 2 := ⟨⟨_, rfl, ew_q qs86⟩, Or.inl (ew_q q2990), ew_q q2992, ⟨by decide +kernel, by decide +kernel⟩, by decide +kernel, w_X2_mostOf, ew_q q129, by decide⟩
theorem vX2_320 : ew_iV RX2 320 1 kX2_leastOf 2 := ⟨⟨_, rfl, ew_q qs87⟩, Or.inl (ew_q q2998), ew_q q3000, ⟨by decide +kernel, by decide +kernel⟩, by decide +kernel, w_X2_leastOf, ew_q q129, by decide⟩
theorem vX2_308 : ew_iV RX2 308 1 kX2_earliestOf 1 := ⟨⟨_, rfl, ew_q qs88⟩, Or.inl (ew_q q3006), ew_q q3008, ⟨by decide +kernel, by decide +kernel⟩, by decide +kernel, w_X2_earliestOf, ew_q q129, by decide⟩
theorem vX2_305 : ew_iV RX2 305 1 kX2_latestOf 1 := ⟨⟨_, rfl, ew_q qs89⟩, Or.inl (ew_q q3014), ew_q q3016, ⟨by decide +kernel, by decide +kernel⟩, by decide +kernel, w_X2_latestOf, ew_q q129, by decide⟩
theorem vX2_323 : ew_iV RX2 323 1 kX2_slackOf 1 := ⟨⟨_, rfl, ew_q qs90⟩, Or.inl (ew_q q3022), ew_q q3024, ⟨by decide +kernel, by decide +kernel⟩, by decide +kernel, w_X2_slackOf, ew_q q129, by decide⟩
theorem vX2_326 : ew_iV RX2 326 1 kX2_wayOf 2 := ⟨⟨_, rfl, ew_q qs91⟩, Or.inl (ew_q q3030), ew_q q3032, ⟨by decide +kernel, by decide +kernel⟩, by decide +kernel, w_X2_wayOf, ew_q q129, by decide⟩
theorem vX2_329 : ew_iV RX2 329 1 kX2_isNeededNow 1 := ⟨⟨_, rfl, ew_q qs92⟩, Or.inl (ew_q q3046), ew_q q3048, ⟨by decide +kernel, by decide +kernel⟩, by decide +kernel, w_X2_isNeededNow, ew_q q129, by decide⟩
theorem vX2_332 : ew_iV RX2 332 1 kX2_partOf 1 := ⟨⟨_, rfl, ew_q qs93⟩, Or.inl (ew_q q3070), ew_q q3072, ⟨by decide +kernel, by decide +kernel⟩, by decide +kernel, w_X2_partOf, ew_q q129, by decide⟩
theorem sX2_335 : ew_iS RX2 335 kJ16_max 2 := ⟨Or.inl (ew_q q3082), ew_q q578, ⟨by decide +kernel, by decide +kernel⟩, by decide +kernel, w_J16_max, ew_q q141, by decide⟩
theorem vX2_338 : ew_iV RX2 338 1 kX2_windowsThere 0 := ⟨⟨_, rfl, ew_q qs94⟩, Or.inl (ew_q q3091), ew_q q3093, ⟨by decide +kernel, by decide +kernel⟩, by decide +kernel, w_X2_windowsThere, ew_q q129, by decide⟩
theorem vX2_341 : ew_iV RX2 341 1 kX2_wideningOf 2 := ⟨⟨_, rfl, ew_q qs95⟩, Or.inl (ew_q q3099), ew_q q3101, ⟨by decide +kernel, by decide +kernel⟩, by decide +kernel, w_X2_wideningOf, ew_q q129, by decide⟩
theorem vX2_354 : ew_iV RX2 354 1 kX2_bestMendNow 0 := ⟨⟨_, rfl, ew_q qs96⟩, Or.inl (ew_q q3107), ew_q q3109, ⟨by decide +kernel, by decide +kernel⟩, by decide +kernel, w_X2_bestMendNow, ew_q q129, by decide⟩
theorem fX2_345 : ew_F RX2 345 1 36 := ⟨RX2, TX2, 42, "EventWindowsModel", rfl, by decide, in_X2, Or.inl (ew_q q2635), Or.inl rfl⟩
theorem pX2_345 : ew_P RX2 345 1 36 .int false := ⟨RX2, TX2, 42, "EventWindowsModel", tyX2, rfl, by decide, in_X2, Or.inl (ew_q q2635), Or.inl rfl, tyX2_ok, nmX2, tyX2_ok 36 (by decide), rfl, fun h => nomatch h⟩
theorem fX2_348 : ew_F RX2 348 1 37 := ⟨RX2, TX2, 42, "EventWindowsModel", rfl, by decide, in_X2, Or.inl (ew_q q2636), Or.inl rfl⟩
theorem pX2_348 : ew_P RX2 348 1 37 .int false := ⟨RX2, TX2, 42, "EventWindowsModel", tyX2, rfl, by decide, in_X2, Or.inl (ew_q q2636), Or.inl rfl, tyX2_ok, nmX2, tyX2_ok 37 (by decide), rfl, fun h => nomatch h⟩
theorem vX2_351 : ew_iV RX2 351 1 kX2_isFirm 1 := ⟨⟨_, rfl, ew_q qs97⟩, Or.inl (ew_q q3111), ew_q q3113, ⟨by decide +kernel, by decide +kernel⟩, by decide +kernel, w_X2_isFirm, ew_q q129, by decide⟩
theorem vX2_371 : ew_iV RX2 371 1 kX2_leastDropNow 0 := ⟨⟨_, rfl, ew_q qs98⟩, Or.inl (ew_q q3123), ew_q q3125, ⟨by decide +kernel, by decide +kernel⟩, by decide +kernel, w_X2_leastDropNow, ew_q q129, by decide⟩
theorem vX2_365 : ew_iV RX2 365 1 kX2_droppable 0 := ⟨⟨_, rfl, ew_q qs99⟩, Or.inl (ew_q q3127), ew_q q3129, ⟨by decide +kernel, by decide +kernel⟩, by decide +kernel, w_X2_droppable, ew_q q129, by decide⟩
theorem vX2_368 : ew_iV RX2 368 1 kX2_isCheaper 2 := ⟨⟨_, rfl, ew_q qs100⟩, Or.inl (ew_q q3131), ew_q q3133, ⟨by decide +kernel, by decide +kernel⟩, by decide +kernel, w_X2_isCheaper, ew_q q129, by decide⟩
theorem vX2_357 : ew_iV RX2 357 1 kX2_costOf 1 := ⟨⟨_, rfl, ew_q qs101⟩, Or.inl (ew_q q3135), ew_q q3137, ⟨by decide +kernel, by decide +kernel⟩, by decide +kernel, w_X2_costOf, ew_q q129, by decide⟩
theorem sX2_360 : ew_iS RX2 360 kJ22_bitCount 1 := ⟨Or.inl (ew_q q3139), ew_q q3140, ⟨by decide +kernel, by decide +kernel⟩, by decide +kernel, w_J22_bitCount, ew_q q148, by decide⟩
theorem sX2_392 : ew_iS RX2 392 kX2_isPolicy 1 := ⟨Or.inl (ew_q q3153), ew_q q3154, ⟨by decide +kernel, by decide +kernel⟩, by decide +kernel, w_X2_isPolicy, ew_q q129, by decide⟩
theorem vX2_395 : ew_iV RX2 395 1 kX2_runs 3 := ⟨⟨_, rfl, ew_q qs102⟩, Or.inl (ew_q q3156), ew_q q3158, ⟨by decide +kernel, by decide +kernel⟩, by decide +kernel, w_X2_runs, ew_q q129, by decide⟩
theorem vX2_383 : ew_iV RX2 383 1 kX2_startsRun 0 := ⟨⟨_, rfl, ew_q qs103⟩, Or.inl (ew_q q3160), ew_q q3162, ⟨by decide +kernel, by decide +kernel⟩, by decide +kernel, w_X2_startsRun, ew_q q129, by decide⟩
theorem vX2_386 : ew_iV RX2 386 1 kX2_nextEvent 0 := ⟨⟨_, rfl, ew_q qs105⟩, Or.inl (ew_q q3168), ew_q q3170, ⟨by decide +kernel, by decide +kernel⟩, by decide +kernel, w_X2_nextEvent, ew_q q129, by decide⟩
theorem vX2_389 : ew_iV RX2 389 1 kX2_timeBy 2 := ⟨⟨_, rfl, ew_q qs106⟩, Or.inl (ew_q q3172), ew_q q3174, ⟨by decide +kernel, by decide +kernel⟩, by decide +kernel, w_X2_timeBy, ew_q q129, by decide⟩
theorem vX2_380 : ew_iV RX2 380 1 kX2_gets 2 := ⟨⟨_, rfl, ew_q qs104⟩, Or.inl (ew_q q3164), ew_q q3166, ⟨by decide +kernel, by decide +kernel⟩, by decide +kernel, w_X2_gets, ew_q q129, by decide⟩
theorem fX2_377 : ew_F RX2 377 1 39 := ⟨RX2, TX2, 42, "EventWindowsModel", rfl, by decide, in_X2, Or.inl (ew_q q2638), Or.inl rfl⟩
theorem pX2_377 : ew_P RX2 377 1 39 .int false := ⟨RX2, TX2, 42, "EventWindowsModel", tyX2, rfl, by decide, in_X2, Or.inl (ew_q q2638), Or.inl rfl, tyX2_ok, nmX2, tyX2_ok 39 (by decide), rfl, fun h => nomatch h⟩
theorem vX2_374 : ew_iV RX2 374 1 kX2_wishedTime 1 := ⟨⟨_, rfl, ew_q qs107⟩, Or.inl (ew_q q3176), ew_q q3178, ⟨by decide +kernel, by decide +kernel⟩, by decide +kernel, w_X2_wishedTime, ew_q q129, by decide⟩
theorem vX2_398 : ew_iV RX2 398 1 kX2_maySeeFor 2 := ⟨⟨_, rfl, ew_q qs108⟩, Or.inl (ew_q q3184), ew_q q3186, ⟨by decide +kernel, by decide +kernel⟩, by decide +kernel, w_X2_maySeeFor, ew_q q129, by decide⟩
theorem vX2_401 : ew_iV RX2 401 1 kX2_spareOf 2 := ⟨⟨_, rfl, ew_q qs109⟩, Or.inl (ew_q q3196), ew_q q3198, ⟨by decide +kernel, by decide +kernel⟩, by decide +kernel, w_X2_spareOf, ew_q q129, by decide⟩
theorem fX2_404 : ew_F RX2 404 1 41 := ⟨RX2, TX2, 42, "EventWindowsModel", rfl, by decide, in_X2, Or.inl (ew_q q2640), Or.inl rfl⟩
theorem pX2_404 : ew_P RX2 404 1 41 .int false := ⟨RX2, TX2, 42, "EventWindowsModel", tyX2, rfl, by decide, in_X2, Or.inl (ew_q q2640), Or.inl rfl, tyX2_ok, nmX2, tyX2_ok 41 (by decide), rfl, fun h => nomatch h⟩
theorem vX2_413 : ew_iV RX2 413 1 kX2_writesName 1 := ⟨⟨_, rfl, ew_q qs110⟩, Or.inl (ew_q q3208), ew_q q3210, ⟨by decide +kernel, by decide +kernel⟩, by decide +kernel, w_X2_writesName, ew_q q129, by decide⟩
theorem vX2_410 : ew_iV RX2 410 1 kX2_writesByte 1 := ⟨⟨_, rfl, ew_q qs111⟩, Or.inl (ew_q q3212), ew_q q3214, ⟨by decide +kernel, by decide +kernel⟩, by decide +kernel, w_X2_writesByte, ew_q q129, by decide⟩
theorem vX2_407 : ew_iV RX2 407 1 kX2_writesNumber 1 := ⟨⟨_, rfl, ew_q qs112⟩, Or.inl (ew_q q3216), ew_q q3218, ⟨by decide +kernel, by decide +kernel⟩, by decide +kernel, w_X2_writesNumber, ew_q q129, by decide⟩
theorem vX2_418 : ew_iV RX2 418 1 kX2_writesWord 1 := ⟨⟨_, rfl, ew_q qs113⟩, Or.inl (ew_q q3221), ew_q q3223, ⟨by decide +kernel, by decide +kernel⟩, by decide +kernel, w_X2_writesWord, ew_q q129, by decide⟩
theorem vX2_422 : ew_iV RX2 422 1 kX2_writesTime 1 := ⟨⟨_, rfl, ew_q qs114⟩, Or.inl (ew_q q3225), ew_q q3227, ⟨by decide +kernel, by decide +kernel⟩, by decide +kernel, w_X2_writesTime, ew_q q129, by decide⟩
theorem vX2_425 : ew_iV RX2 425 1 kX2_fromOf 1 := ⟨⟨_, rfl, ew_q qs115⟩, Or.inl (ew_q q3233), ew_q q3235, ⟨by decide +kernel, by decide +kernel⟩, by decide +kernel, w_X2_fromOf, ew_q q129, by decide⟩
theorem sX2_435 : ew_iS RX2 435 kX2_areInOrder 2 := ⟨Or.inl (ew_q q3251), ew_q q3252, ⟨by decide +kernel, by decide +kernel⟩, by decide +kernel, w_X2_areInOrder, ew_q q129, by decide⟩
theorem vX2_438 : ew_iV RX2 438 1 kX2_sets 2 := ⟨⟨_, rfl, ew_q qs116⟩, Or.inl (ew_q q3254), ew_q q3256, ⟨by decide +kernel, by decide +kernel⟩, by decide +kernel, w_X2_sets, ew_q q129, by decide⟩
theorem vX2_432 : ew_iV RX2 432 1 kX2_remembers 0 := ⟨⟨_, rfl, ew_q qs117⟩, Or.inl (ew_q q3258), ew_q q3260, ⟨by decide +kernel, by decide +kernel⟩, by decide +kernel, w_X2_remembers, ew_q q129, by decide⟩
theorem vX2_441 : ew_iV RX2 441 1 kX2_softNow 0 := ⟨⟨_, rfl, ew_q qs118⟩, Or.inl (ew_q q3270), ew_q q3272, ⟨by decide +kernel, by decide +kernel⟩, by decide +kernel, w_X2_softNow, ew_q q129, by decide⟩
theorem vX2_444 : ew_iV RX2 444 1 kX2_canBeAt 2 := ⟨⟨_, rfl, ew_q qs119⟩, Or.inl (ew_q q3286), ew_q q3288, ⟨by decide +kernel, by decide +kernel⟩, by decide +kernel, w_X2_canBeAt, ew_q q129, by decide⟩
theorem vX2_447 : ew_iV RX2 447 1 kX2_tightens 2 := ⟨⟨_, rfl, ew_q qs120⟩, Or.inl (ew_q q3306), ew_q q3308, ⟨by decide +kernel, by decide +kernel⟩, by decide +kernel, w_X2_tightens, ew_q q129, by decide⟩
theorem iX3_3 : ew_iI RX3 3 kJ31_init 0 := ⟨Or.inl (ew_q q438), ew_q q177, rfl, rfl, rfl, ⟨by decide +kernel, by decide +kernel⟩, by decide +kernel, w_J31_init, ew_q q3350, by decide⟩
theorem fX3_11 : ew_F RX3 11 2 9 := ⟨RX3, TX3, 16, "EventWindows$Parser", rfl, by decide, in_X3, Or.inl (ew_q q504), Or.inl rfl⟩
theorem pX3_11 : ew_P RX3 11 2 9 (.object "java/lang/String") false := ⟨RX3, TX3, 16, "EventWindows$Parser", tyX3, rfl, by decide, in_X3, Or.inl (ew_q q504), Or.inl rfl, tyX3_ok, nmX3, tyX3_ok 9 (by decide), rfl, fun h => nomatch h⟩
theorem nX3_17 : ew_N RX3 17 18 [.null, .null, .null, .null, .int 0, .int 0, .null, .null, .null] := ⟨RJ12, TJ12, 9, tyJ12, rfl, in_J12, tyJ12_ok, ew_q q440, ew_q q441, ew_q q137, rfl, fun j h => (show ∀ j, j < 9 → defaultValue (tyJ12 j) = vp_V [.null, .null, .null, .null, .int 0, .int 0, .null, .null, .null] j by decide) j h⟩
theorem iX3_19 : ew_iI RX3 19 kJ12_init 0 := ⟨Or.inl (ew_q q442), ew_q q443, rfl, rfl, rfl, ⟨by decide +kernel, by decide +kernel⟩, by decide +kernel, w_J12_init, ew_q q137, by decide⟩
theorem fX3_20 : ew_F RX3 20 2 10 := ⟨RX3, TX3, 16, "EventWindows$Parser", rfl, by decide, in_X3, Or.inl (ew_q q505), Or.inl rfl⟩
theorem pX3_20 : ew_P RX3 20 2 10 (.object "java/util/TreeMap") true := ⟨RX3, TX3, 16, "EventWindows$Parser", tyX3, rfl, by decide, in_X3, Or.inl (ew_q q505), Or.inl rfl, tyX3_ok, nmX3, tyX3_ok 10 (by decide), rfl, fun _ => rfl⟩
theorem nX3_24 : ew_N RX3 24 19 [.int 0, .null, .int 0] := ⟨RJ14, TJ14, 3, tyJ14, rfl, in_J14, tyJ14_ok, ew_q q472, ew_q q473, ew_q q139, rfl, fun j h => (show ∀ j, j < 3 → defaultValue (tyJ14 j) = vp_V [.int 0, .null, .int 0] j by decide) j h⟩
theorem iX3_26 : ew_iI RX3 26 kJ14_init 0 := ⟨Or.inl (ew_q q474), ew_q q475, rfl, rfl, rfl, ⟨by decide +kernel, by decide +kernel⟩, by decide +kernel, w_J14_init, ew_q q139, by decide⟩
theorem fX3_27 : ew_F RX3 27 2 11 := ⟨RX3, TX3, 16, "EventWindows$Parser", rfl, by decide, in_X3, Or.inl (ew_q q506), Or.inl rfl⟩
theorem pX3_27 : ew_P RX3 27 2 11 (.object "java/util/List") true := ⟨RX3, TX3, 16, "EventWindows$Parser", tyX3, rfl, by decide, in_X3, Or.inl (ew_q q506), Or.inl rfl, tyX3_ok, nmX3, tyX3_ok 11 (by decide), rfl, fun _ => rfl⟩
theorem fX3_31 : ew_F RX3 31 2 12 := ⟨RX3, TX3, 16, "EventWindows$Parser", rfl, by decide, in_X3, Or.inl (ew_q q507), Or.inl rfl⟩
theorem pX3_31 : ew_P RX3 31 2 12 (.object "java/util/List") true := ⟨RX3, TX3, 16, "EventWindows$Parser", tyX3, rfl, by decide, in_X3, Or.inl (ew_q q507), Or.inl rfl, tyX3_ok, nmX3, tyX3_ok 12 (by decide), rfl, fun _ => rfl⟩
theorem fX3_34 : ew_F RX3 34 2 13 := ⟨RX3, TX3, 16, "EventWindows$Parser", rfl, by decide, in_X3, Or.inl (ew_q q508), Or.inl rfl⟩
theorem pX3_34 : ew_P RX3 34 2 13 (.array .int) true := ⟨RX3, TX3, 16, "EventWindows$Parser", tyX3, rfl, by decide, in_X3, Or.inl (ew_q q508), Or.inl rfl, tyX3_ok, nmX3, tyX3_ok 13 (by decide), rfl, fun _ => rfl⟩
theorem fX3_38 : ew_F RX3 38 2 14 := ⟨RX3, TX3, 16, "EventWindows$Parser", rfl, by decide, in_X3, Or.inl (ew_q q509), Or.inl rfl⟩
theorem pX3_38 : ew_P RX3 38 2 14 (.array .int) true := ⟨RX3, TX3, 16, "EventWindows$Parser", tyX3, rfl, by decide, in_X3, Or.inl (ew_q q509), Or.inl rfl, tyX3_ok, nmX3, tyX3_ok 14 (by decide), rfl, fun _ => rfl⟩
theorem fX3_41 : ew_F RX3 41 2 15 := ⟨RX3, TX3, 16, "EventWindows$Parser", rfl, by decide, in_X3, Or.inl (ew_q q510), Or.inl rfl⟩
theorem pX3_41 : ew_P RX3 41 2 15 (.array .int) true := ⟨RX3, TX3, 16, "EventWindows$Parser", tyX3, rfl, by decide, in_X3, Or.inl (ew_q q510), Or.inl rfl, tyX3_ok, nmX3, tyX3_ok 15 (by decide), rfl, fun _ => rfl⟩
theorem fX3_44 : ew_F RX3 44 2 0 := ⟨RX3, TX3, 16, "EventWindows$Parser", rfl, by decide, in_X3, Or.inl (ew_q q495), Or.inl rfl⟩
theorem pX3_44 : ew_P RX3 44 2 0 (.array .byte) true := ⟨RX3, TX3, 16, "EventWindows$Parser", tyX3, rfl, by decide, in_X3, Or.inl (ew_q q495), Or.inl rfl, tyX3_ok, nmX3, tyX3_ok 0 (by decide), rfl, fun _ => rfl⟩
theorem fX3_48 : ew_F RX3 48 2 1 := ⟨RX3, TX3, 16, "EventWindows$Parser", rfl, by decide, in_X3, Or.inl (ew_q q496), Or.inl rfl⟩
theorem pX3_48 : ew_P RX3 48 2 1 .int true := ⟨RX3, TX3, 16, "EventWindows$Parser", tyX3, rfl, by decide, in_X3, Or.inl (ew_q q496), Or.inl rfl, tyX3_ok, nmX3, tyX3_ok 1 (by decide), rfl, fun _ => rfl⟩
theorem vX3_108 : ew_iV RX3 108 2 kX3_advance 0 := ⟨⟨_, rfl, ew_q qs1⟩, Or.inl (ew_q q548), ew_q q550, ⟨by decide +kernel, by decide +kernel⟩, by decide +kernel, w_X3_advance, ew_q q135, by decide⟩
theorem vX3_157 : ew_iV RX3 157 2 kX3_expect 1 := ⟨⟨_, rfl, ew_q qs3⟩, Or.inl (ew_q q808), ew_q q810, ⟨by decide +kernel, by decide +kernel⟩, by decide +kernel, w_X3_expect, ew_q q135, by decide⟩
theorem vX3_161 : ew_iV RX3 161 2 kX3_fresh 0 := ⟨⟨_, rfl, ew_q qs5⟩, Or.inl (ew_q q852), ew_q q854, ⟨by decide +kernel, by decide +kernel⟩, by decide +kernel, w_X3_fresh, ew_q q135, by decide⟩
theorem vX3_98 : ew_iV RX3 98 17 kJ4_equals 1 := ⟨⟨_, rfl, ew_q q814⟩, Or.inl (ew_q q812), ew_q q813, ⟨by decide +kernel, by decide +kernel⟩, by decide +kernel, w_J4_equals, ew_q q127, by decide⟩
theorem vX3_164 : ew_iV RX3 164 2 kX3_line 0 := ⟨⟨_, rfl, ew_q qs16⟩, Or.inl (ew_q q1296), ew_q q1298, ⟨by decide +kernel, by decide +kernel⟩, by decide +kernel, w_X3_line, ew_q q135, by decide⟩
theorem vX3_111 : ew_iV RX3 111 17 kJ4_isEmpty 0 := ⟨⟨_, rfl, ew_q q862⟩, Or.inl (ew_q q860), ew_q q861, ⟨by decide +kernel, by decide +kernel⟩, by decide +kernel, w_J4_isEmpty, ew_q q127, by decide⟩
theorem vX3_104 : ew_iV RX3 104 2 kX3_flaw 1 := ⟨⟨_, rfl, ew_q qs4⟩, Or.inl (ew_q q820), ew_q q822, ⟨by decide +kernel, by decide +kernel⟩, by decide +kernel, w_X3_flaw, ew_q q135, by decide⟩
theorem tX3_125_19 : ew_iF RX3 125 19 kJ14_size 0 := ⟨_, ⟨"java/util/List", "size", "()I"⟩, rfl, ew_q q1133, ew_qt q301 rfl, ew_qt q300 rfl, ew_q q303, ew_q q305, ew_qt q306 rfl, ew_qt q304 rfl, ew_qt q302 rfl, ⟨by decide +kernel, by decide +kernel⟩, by decide +kernel, w_J14_size, ew_q q139, by decide⟩
theorem tX3_167_19 : ew_iF RX3 167 19 kJ14_get 1 := ⟨_, ⟨"java/util/List", "get", "(I)Ljava/lang/Object;"⟩, rfl, ew_q q1426, ew_qt q1428 rfl, ew_qt q1427 rfl, ew_q q1429, ew_q q1431, ew_qt q1432 rfl, ew_qt q1430 rfl, ew_qt q302 rfl, ⟨by decide +kernel, by decide +kernel⟩, by decide +kernel, w_J14_get, ew_q q139, by decide⟩
theorem nX3_170 : ew_N RX3 170 5 [.null, .null, .null, .null, .null] := ⟨RX6, TX6, 5, tyX6, rfl, in_X6, tyX6_ok, ew_q q1442, ew_q q1443, ew_q q157, rfl, fun j h => (show ∀ j, j < 5 → defaultValue (tyX6 j) = vp_V [.null, .null, .null, .null, .null] j by decide) j h⟩
theorem iX3_172 : ew_iI RX3 172 kX6_init 1 := ⟨Or.inl (ew_q q1444), ew_q q1445, rfl, rfl, rfl, ⟨by decide +kernel, by decide +kernel⟩, by decide +kernel, w_X6_init, ew_q q157, by decide⟩
theorem fX3_175 : ew_F RX3 175 5 1 := ⟨RX6, TX6, 5, "EventWindows$Net", rfl, by decide, in_X6, Or.inr ⟨"EventWindows", ew_qt q1453 rfl⟩, Or.inl rfl⟩
theorem tX3_176_19 : ew_iF RX3 176 19 kJ14_addAll 1 := ⟨_, ⟨"java/util/List", "addAll", "(Ljava/util/Collection;)Z"⟩, rfl, ew_q q1479, ew_qt q1481 rfl, ew_qt q1480 rfl, ew_q q1482, ew_q q1484, ew_qt q1485 rfl, ew_qt q1483 rfl, ew_qt q302 rfl, ⟨by decide +kernel, by decide +kernel⟩, by decide +kernel, w_J14_addAll, ew_q q139, by decide⟩
theorem fX3_180 : ew_F RX3 180 2 5 := ⟨RX3, TX3, 16, "EventWindows$Parser", rfl, by decide, in_X3, Or.inl (ew_q q500), Or.inl rfl⟩
theorem sX3_151 : ew_iS RX3 151 kX1_has 2 := ⟨Or.inr ⟨"EventWindows", ew_qt q1378 rfl⟩, ew_q q1379, ⟨by decide +kernel, by decide +kernel⟩, by decide +kernel, w_X1_has, ew_q q122, by decide⟩
theorem fX3_183 : ew_F RX3 183 5 2 := ⟨RX6, TX6, 5, "EventWindows$Net", rfl, by decide, in_X6, Or.inr ⟨"EventWindows", ew_qt q1457 rfl⟩, Or.inl rfl⟩
theorem fX3_185 : ew_F RX3 185 2 7 := ⟨RX3, TX3, 16, "EventWindows$Parser", rfl, by decide, in_X3, Or.inl (ew_q q502), Or.inl rfl⟩
theorem fX3_188 : ew_F RX3 188 5 4 := ⟨RX6, TX6, 5, "EventWindows$Net", rfl, by decide, in_X6, Or.inr ⟨"EventWindows", ew_qt q1465 rfl⟩, Or.inl rfl⟩
theorem fX3_189 : ew_F RX3 189 5 3 := ⟨RX6, TX6, 5, "EventWindows$Net", rfl, by decide, in_X6, Or.inr ⟨"EventWindows", ew_qt q1461 rfl⟩, Or.inl rfl⟩
theorem fX3_52 : ew_F RX3 52 2 2 := ⟨RX3, TX3, 16, "EventWindows$Parser", rfl, by decide, in_X3, Or.inl (ew_q q497), Or.inl rfl⟩
theorem vX3_55 : ew_iV RX3 55 2 kX3_at 1 := ⟨⟨_, rfl, ew_q qs2⟩, Or.inl (ew_q q552), ew_q q554, ⟨by decide +kernel, by decide +kernel⟩, by decide +kernel, w_X3_at, ew_q q135, by decide⟩
theorem pX3_52 : ew_P RX3 52 2 2 .int false := ⟨RX3, TX3, 16, "EventWindows$Parser", tyX3, rfl, by decide, in_X3, Or.inl (ew_q q497), Or.inl rfl, tyX3_ok, nmX3, tyX3_ok 2 (by decide), rfl, fun h => nomatch h⟩
theorem fX3_59 : ew_F RX3 59 2 3 := ⟨RX3, TX3, 16, "EventWindows$Parser", rfl, by decide, in_X3, Or.inl (ew_q q498), Or.inl rfl⟩
theorem pX3_59 : ew_P RX3 59 2 3 .int false := ⟨RX3, TX3, 16, "EventWindows$Parser", tyX3, rfl, by decide, in_X3, Or.inl (ew_q q498), Or.inl rfl, tyX3_ok, nmX3, tyX3_ok 3 (by decide), rfl, fun h => nomatch h⟩
theorem sX3_62 : ew_iS RX3 62 kX1_in 3 := ⟨Or.inr ⟨"EventWindows", ew_qt q556 rfl⟩, ew_q q410, ⟨by decide +kernel, by decide +kernel⟩, by decide +kernel, w_X1_in, ew_q q122, by decide⟩
theorem nX3_66 : ew_N RX3 66 16 [.null, .int 0, .int 0, .int 0] := ⟨RJ3, TJ3, 4, tyJ3, rfl, in_J3, tyJ3_ok, ew_q q557, ew_q q204, ew_q q126, rfl, fun j h => (show ∀ j, j < 4 → defaultValue (tyJ3 j) = vp_V [.null, .int 0, .int 0, .int 0] j by decide) j h⟩
theorem iX3_68 : ew_iI RX3 68 kJ3_init 0 := ⟨Or.inl (ew_q q558), ew_q q206, rfl, rfl, rfl, ⟨by decide +kernel, by decide +kernel⟩, by decide +kernel, w_J3_init, ew_q q126, by decide⟩
theorem vX3_69 : ew_iV RX3 69 16 kJ3_append 1 := ⟨⟨_, rfl, ew_q q561⟩, Or.inl (ew_q q559), ew_q q560, ⟨by decide +kernel, by decide +kernel⟩, by decide +kernel, w_J3_append, ew_q q126, by decide⟩
theorem vX3_75 : ew_iV RX3 75 16 kJ3_toString 0 := ⟨⟨_, rfl, ew_q q657⟩, Or.inl (ew_q q655), ew_q q656, ⟨by decide +kernel, by decide +kernel⟩, by decide +kernel, w_J3_toString, ew_q q126, by decide⟩
theorem fX3_79 : ew_F RX3 79 2 4 := ⟨RX3, TX3, 16, "EventWindows$Parser", rfl, by decide, in_X3, Or.inl (ew_q q499), Or.inl rfl⟩
theorem pX3_79 : ew_P RX3 79 2 4 .int false := ⟨RX3, TX3, 16, "EventWindows$Parser", tyX3, rfl, by decide, in_X3, Or.inl (ew_q q499), Or.inl rfl, tyX3_ok, nmX3, tyX3_ok 4 (by decide), rfl, fun h => nomatch h⟩
theorem sX3_83 : ew_iS RX3 83 kJ16_min 2 := ⟨Or.inl (ew_q q804), ew_q q596, ⟨by decide +kernel, by decide +kernel⟩, by decide +kernel, w_J16_min, ew_q q141, by decide⟩
theorem nX3_93 : ew_N RX3 93 3 [.null, .null, .null, .null, .null, .int 0, .int 0, .int 0] := ⟨RX4, TX4, 8, tyX4, rfl, in_X4, tyX4_ok, ew_q q824, ew_q q825, ew_q q149, rfl, fun j h => (show ∀ j, j < 8 → defaultValue (tyX4 j) = vp_V [.null, .null, .null, .null, .null, .int 0, .int 0, .int 0] j by decide) j h⟩
theorem iX3_95 : ew_iI RX3 95 kX4_init 2 := ⟨Or.inl (ew_q q833), ew_q q834, rfl, rfl, rfl, ⟨by decide +kernel, by decide +kernel⟩, by decide +kernel, w_X4_init, ew_q q149, by decide⟩
theorem vX3_119 : ew_iV RX3 119 2 kX3_isWord 0 := ⟨⟨_, rfl, ew_q qs6⟩, Or.inl (ew_q q856), ew_q q858, ⟨by decide +kernel, by decide +kernel⟩, by decide +kernel, w_X3_isWord, ew_q q135, by decide⟩
theorem vX3_122 : ew_iV RX3 122 18 kJ12_containsKey 1 := ⟨⟨_, rfl, ew_q q881⟩, Or.inl (ew_q q879), ew_q q880, ⟨by decide +kernel, by decide +kernel⟩, by decide +kernel, w_J12_containsKey, ew_q q137, by decide⟩
theorem sX3_131 : ew_iS RX3 131 kJ22_valueOf 1 := ⟨Or.inl (ew_q q1134), ew_q q1135, ⟨by decide +kernel, by decide +kernel⟩, by decide +kernel, w_J22_valueOf, ew_q q148, by decide⟩
theorem vX3_137 : ew_iV RX3 137 18 kJ12_put 2 := ⟨⟨_, rfl, ew_q q1155⟩, Or.inl (ew_q q1153), ew_q q1154, ⟨by decide +kernel, by decide +kernel⟩, by decide +kernel, w_J12_put, ew_q q137, by decide⟩
theorem tX3_141_19 : ew_iF RX3 141 19 kJ14_add 1 := ⟨_, ⟨"java/util/List", "add", "(Ljava/lang/Object;)Z"⟩, rfl, ew_q q1231, ew_qt q1233 rfl, ew_qt q1232 rfl, ew_q q1234, ew_q q1236, ew_qt q1237 rfl, ew_qt q1235 rfl, ew_qt q302 rfl, ⟨by decide +kernel, by decide +kernel⟩, by decide +kernel, w_J14_add, ew_q q139, by decide⟩
theorem vX3_115 : ew_iV RX3 115 17 kJ4_charAt 1 := ⟨⟨_, rfl, ew_q q866⟩, Or.inl (ew_q q864), ew_q q865, ⟨by decide +kernel, by decide +kernel⟩, by decide +kernel, w_J4_charAt, ew_q q127, by decide⟩
theorem vX3_190 : ew_iV RX3 190 17 kJ4_hashCode 0 := ⟨⟨_, rfl, ew_q q1302⟩, Or.inl (ew_q q1300), ew_q q1301, ⟨by decide +kernel, by decide +kernel⟩, by decide +kernel, w_J4_hashCode, ew_q q127, by decide⟩
theorem vX3_203 : ew_iV RX3 203 2 kX3_window 0 := ⟨⟨_, rfl, ew_q qs17⟩, Or.inl (ew_q q1362), ew_q q1364, ⟨by decide +kernel, by decide +kernel⟩, by decide +kernel, w_X3_window, ew_q q135, by decide⟩
theorem vX3_205 : ew_iV RX3 205 2 kX3_event 1 := ⟨⟨_, rfl, ew_q qs18⟩, Or.inl (ew_q q1366), ew_q q1368, ⟨by decide +kernel, by decide +kernel⟩, by decide +kernel, w_X3_event, ew_q q135, by decide⟩
theorem pX3_180 : ew_P RX3 180 2 5 .int false := ⟨RX3, TX3, 16, "EventWindows$Parser", tyX3, rfl, by decide, in_X3, Or.inl (ew_q q500), Or.inl rfl, tyX3_ok, nmX3, tyX3_ok 5 (by decide), rfl, fun h => nomatch h⟩
theorem vX3_207 : ew_iV RX3 207 2 kX3_number 2 := ⟨⟨_, rfl, ew_q qs19⟩, Or.inl (ew_q q1381), ew_q q1383, ⟨by decide +kernel, by decide +kernel⟩, by decide +kernel, w_X3_number, ew_q q135, by decide⟩
theorem fX3_209 : ew_F RX3 209 2 6 := ⟨RX3, TX3, 16, "EventWindows$Parser", rfl, by decide, in_X3, Or.inl (ew_q q501), Or.inl rfl⟩
theorem pX3_209 : ew_P RX3 209 2 6 .int false := ⟨RX3, TX3, 16, "EventWindows$Parser", tyX3, rfl, by decide, in_X3, Or.inl (ew_q q501), Or.inl rfl, tyX3_ok, nmX3, tyX3_ok 6 (by decide), rfl, fun h => nomatch h⟩
theorem pX3_185 : ew_P RX3 185 2 7 .int false := ⟨RX3, TX3, 16, "EventWindows$Parser", tyX3, rfl, by decide, in_X3, Or.inl (ew_q q502), Or.inl rfl, tyX3_ok, nmX3, tyX3_ok 7 (by decide), rfl, fun h => nomatch h⟩
theorem fX3_214 : ew_F RX3 214 2 8 := ⟨RX3, TX3, 16, "EventWindows$Parser", rfl, by decide, in_X3, Or.inl (ew_q q503), Or.inl rfl⟩
theorem pX3_214 : ew_P RX3 214 2 8 .int false := ⟨RX3, TX3, 16, "EventWindows$Parser", tyX3, rfl, by decide, in_X3, Or.inl (ew_q q503), Or.inl rfl, tyX3_ok, nmX3, tyX3_ok 8 (by decide), rfl, fun h => nomatch h⟩
theorem nX3_216 : ew_N RX3 216 4 [.int 0, .int 0, .int 0, .int 0, .int 0, .int 0] := ⟨RX5, TX5, 6, tyX5, rfl, in_X5, tyX5_ok, ew_q q1386, ew_q q1387, ew_q q156, rfl, fun j h => (show ∀ j, j < 6 → defaultValue (tyX5 j) = vp_V [.int 0, .int 0, .int 0, .int 0, .int 0, .int 0] j by decide) j h⟩
theorem iX3_218 : ew_iI RX3 218 kX5_init 5 := ⟨Or.inl (ew_q q1388), ew_q q1389, rfl, rfl, rfl, ⟨by decide +kernel, by decide +kernel⟩, by decide +kernel, w_X5_init, ew_q q156, by decide⟩
theorem vX3_144 : ew_iV RX3 144 18 kJ12_get 1 := ⟨⟨_, rfl, ew_q q1372⟩, Or.inl (ew_q q1370), ew_q q1371, ⟨by decide +kernel, by decide +kernel⟩, by decide +kernel, w_J12_get, ew_q q137, by decide⟩
theorem vX3_148 : ew_iV RX3 148 20 kJ22_intValue 0 := ⟨⟨_, rfl, ew_q q1376⟩, Or.inl (ew_q q1374), ew_q q1375, ⟨by decide +kernel, by decide +kernel⟩, by decide +kernel, w_J22_intValue, ew_q q148, by decide⟩
theorem iX4_1 : ew_iI RX4 1 kJ7_init_3 4 := ⟨Or.inl (ew_q q836), ew_q q837, rfl, rfl, rfl, ⟨by decide +kernel, by decide +kernel⟩, by decide +kernel, w_J7_init_3, ew_q q131, by decide⟩
theorem fX4_7 : ew_F RX4 7 3 6 := ⟨RX4, TX4, 8, "EventWindows$Flaw", rfl, by decide, in_X4, Or.inl (ew_q q842), Or.inl rfl⟩
theorem pX4_7 : ew_P RX4 7 3 6 .int true := ⟨RX4, TX4, 8, "EventWindows$Flaw", tyX4, rfl, by decide, in_X4, Or.inl (ew_q q842), Or.inl rfl, tyX4_ok, nmX4, tyX4_ok 6 (by decide), rfl, fun _ => rfl⟩
theorem fX4_13 : ew_F RX4 13 3 7 := ⟨RX4, TX4, 8, "EventWindows$Flaw", rfl, by decide, in_X4, Or.inl (ew_q q844), Or.inl rfl⟩
theorem pX4_13 : ew_P RX4 13 3 7 .int true := ⟨RX4, TX4, 8, "EventWindows$Flaw", tyX4, rfl, by decide, in_X4, Or.inl (ew_q q844), Or.inl rfl, tyX4_ok, nmX4, tyX4_ok 7 (by decide), rfl, fun _ => rfl⟩
theorem iX5_3 : ew_iI RX5 3 kJ31_init 0 := ⟨Or.inl (ew_q q1391), ew_q q177, rfl, rfl, rfl, ⟨by decide +kernel, by decide +kernel⟩, by decide +kernel, w_J31_init, ew_q q3350, by decide⟩
theorem fX5_9 : ew_F RX5 9 4 0 := ⟨RX5, TX5, 6, "EventWindows$Window", rfl, by decide, in_X5, Or.inl (ew_q q1392), Or.inl rfl⟩
theorem pX5_9 : ew_P RX5 9 4 0 .int true := ⟨RX5, TX5, 6, "EventWindows$Window", tyX5, rfl, by decide, in_X5, Or.inl (ew_q q1392), Or.inl rfl, tyX5_ok, nmX5, tyX5_ok 0 (by decide), rfl, fun _ => rfl⟩
theorem fX5_15 : ew_F RX5 15 4 1 := ⟨RX5, TX5, 6, "EventWindows$Window", rfl, by decide, in_X5, Or.inl (ew_q q1395), Or.inl rfl⟩
theorem pX5_15 : ew_P RX5 15 4 1 .int true := ⟨RX5, TX5, 6, "EventWindows$Window", tyX5, rfl, by decide, in_X5, Or.inl (ew_q q1395), Or.inl rfl, tyX5_ok, nmX5, tyX5_ok 1 (by decide), rfl, fun _ => rfl⟩
theorem fX5_18 : ew_F RX5 18 4 2 := ⟨RX5, TX5, 6, "EventWindows$Window", rfl, by decide, in_X5, Or.inl (ew_q q1398), Or.inl rfl⟩
theorem pX5_18 : ew_P RX5 18 4 2 .int false := ⟨RX5, TX5, 6, "EventWindows$Window", tyX5, rfl, by decide, in_X5, Or.inl (ew_q q1398), Or.inl rfl, tyX5_ok, nmX5, tyX5_ok 2 (by decide), rfl, fun h => nomatch h⟩
theorem fX5_21 : ew_F RX5 21 4 3 := ⟨RX5, TX5, 6, "EventWindows$Window", rfl, by decide, in_X5, Or.inl (ew_q q1401), Or.inl rfl⟩
theorem pX5_21 : ew_P RX5 21 4 3 .int false := ⟨RX5, TX5, 6, "EventWindows$Window", tyX5, rfl, by decide, in_X5, Or.inl (ew_q q1401), Or.inl rfl, tyX5_ok, nmX5, tyX5_ok 3 (by decide), rfl, fun h => nomatch h⟩
theorem fX5_24 : ew_F RX5 24 4 4 := ⟨RX5, TX5, 6, "EventWindows$Window", rfl, by decide, in_X5, Or.inl (ew_q q1404), Or.inl rfl⟩
theorem pX5_24 : ew_P RX5 24 4 4 .int false := ⟨RX5, TX5, 6, "EventWindows$Window", tyX5, rfl, by decide, in_X5, Or.inl (ew_q q1404), Or.inl rfl, tyX5_ok, nmX5, tyX5_ok 4 (by decide), rfl, fun h => nomatch h⟩
theorem fX5_30 : ew_F RX5 30 4 5 := ⟨RX5, TX5, 6, "EventWindows$Window", rfl, by decide, in_X5, Or.inl (ew_q q1407), Or.inl rfl⟩
theorem vX5_34 : ew_iV RX5 34 6 kX7_step 3 := ⟨⟨_, rfl, ew_q q1683⟩, Or.inl (ew_q q1681), ew_q q1682, ⟨by decide +kernel, by decide +kernel⟩, by decide +kernel, w_X7_step, ew_q q158, by decide⟩
theorem nX5_10 : ew_N RX5 10 4 [.int 0, .int 0, .int 0, .int 0, .int 0, .int 0] := ⟨RX5, TX5, 6, tyX5, rfl, in_X5, tyX5_ok, ew_q q2446, ew_q q1387, ew_q q156, rfl, fun j h => (show ∀ j, j < 6 → defaultValue (tyX5 j) = vp_V [.int 0, .int 0, .int 0, .int 0, .int 0, .int 0] j by decide) j h⟩
theorem iX5_27 : ew_iI RX5 27 kX5_init 5 := ⟨Or.inl (ew_q q2447), ew_q q1389, rfl, rfl, rfl, ⟨by decide +kernel, by decide +kernel⟩, by decide +kernel, w_X5_init, ew_q q156, by decide⟩
theorem pX5_30 : ew_P RX5 30 4 5 .boolean false := ⟨RX5, TX5, 6, "EventWindows$Window", tyX5, rfl, by decide, in_X5, Or.inl (ew_q q1407), Or.inl rfl, tyX5_ok, nmX5, tyX5_ok 5 (by decide), rfl, fun h => nomatch h⟩
theorem vX5_40 : ew_iV RX5 40 6 kX7_sum 2 := ⟨⟨_, rfl, ew_q q1700⟩, Or.inl (ew_q q2542), ew_q q1699, ⟨by decide +kernel, by decide +kernel⟩, by decide +kernel, w_X7_sum, ew_q q158, by decide⟩
theorem fX6_18 : ew_F RX6 18 5 0 := ⟨RX6, TX6, 5, "EventWindows$Net", rfl, by decide, in_X6, Or.inl (ew_q q1450), Or.inl rfl⟩
theorem iX6_3 : ew_iI RX6 3 kJ31_init 0 := ⟨Or.inl (ew_q q1447), ew_q q177, rfl, rfl, rfl, ⟨by decide +kernel, by decide +kernel⟩, by decide +kernel, w_J31_init, ew_q q3350, by decide⟩
theorem nX6_9 : ew_N RX6 9 19 [.int 0, .null, .int 0] := ⟨RJ14, TJ14, 3, tyJ14, rfl, in_J14, tyJ14_ok, ew_q q1448, ew_q q473, ew_q q139, rfl, fun j h => (show ∀ j, j < 3 → defaultValue (tyJ14 j) = vp_V [.int 0, .null, .int 0] j by decide) j h⟩
theorem iX6_11 : ew_iI RX6 11 kJ14_init 0 := ⟨Or.inl (ew_q q1449), ew_q q475, rfl, rfl, rfl, ⟨by decide +kernel, by decide +kernel⟩, by decide +kernel, w_J14_init, ew_q q139, by decide⟩
theorem fX6_12 : ew_F RX6 12 5 1 := ⟨RX6, TX6, 5, "EventWindows$Net", rfl, by decide, in_X6, Or.inl (ew_q q1452), Or.inl rfl⟩
theorem pX6_12 : ew_P RX6 12 5 1 (.object "java/util/List") true := ⟨RX6, TX6, 5, "EventWindows$Net", tyX6, rfl, by decide, in_X6, Or.inl (ew_q q1452), Or.inl rfl, tyX6_ok, nmX6, tyX6_ok 1 (by decide), rfl, fun _ => rfl⟩
theorem pX6_18 : ew_P RX6 18 5 0 (.array (.object "java/lang/String")) true := ⟨RX6, TX6, 5, "EventWindows$Net", tyX6, rfl, by decide, in_X6, Or.inl (ew_q q1450), Or.inl rfl, tyX6_ok, nmX6, tyX6_ok 0 (by decide), rfl, fun _ => rfl⟩
theorem fX6_22 : ew_F RX6 22 5 2 := ⟨RX6, TX6, 5, "EventWindows$Net", rfl, by decide, in_X6, Or.inl (ew_q q1455), Or.inl rfl⟩
theorem pX6_22 : ew_P RX6 22 5 2 (.array .int) true := ⟨RX6, TX6, 5, "EventWindows$Net", tyX6, rfl, by decide, in_X6, Or.inl (ew_q q1455), Or.inl rfl, tyX6_ok, nmX6, tyX6_ok 2 (by decide), rfl, fun _ => rfl⟩
theorem fX6_26 : ew_F RX6 26 5 3 := ⟨RX6, TX6, 5, "EventWindows$Net", rfl, by decide, in_X6, Or.inl (ew_q q1459), Or.inl rfl⟩
theorem pX6_26 : ew_P RX6 26 5 3 (.array .int) true := ⟨RX6, TX6, 5, "EventWindows$Net", tyX6, rfl, by decide, in_X6, Or.inl (ew_q q1459), Or.inl rfl, tyX6_ok, nmX6, tyX6_ok 3 (by decide), rfl, fun _ => rfl⟩
theorem fX6_29 : ew_F RX6 29 5 4 := ⟨RX6, TX6, 5, "EventWindows$Net", rfl, by decide, in_X6, Or.inl (ew_q q1463), Or.inl rfl⟩
theorem pX6_29 : ew_P RX6 29 5 4 (.array .int) true := ⟨RX6, TX6, 5, "EventWindows$Net", tyX6, rfl, by decide, in_X6, Or.inl (ew_q q1463), Or.inl rfl, tyX6_ok, nmX6, tyX6_ok 4 (by decide), rfl, fun _ => rfl⟩
theorem vX6_65 : ew_iV RX6 65 6 kX7_clear 0 := ⟨⟨_, rfl, ew_q q1668⟩, Or.inl (ew_q q1666), ew_q q1667, ⟨by decide +kernel, by decide +kernel⟩, by decide +kernel, w_X7_clear, ew_q q158, by decide⟩
theorem tX6_35_19 : ew_iF RX6 35 19 kJ14_size 0 := ⟨_, ⟨"java/util/List", "size", "()I"⟩, rfl, ew_q q1672, ew_qt q301 rfl, ew_qt q300 rfl, ew_q q303, ew_q q305, ew_qt q306 rfl, ew_qt q304 rfl, ew_qt q302 rfl, ⟨by decide +kernel, by decide +kernel⟩, by decide +kernel, w_J14_size, ew_q q139, by decide⟩
theorem tX6_41_19 : ew_iF RX6 41 19 kJ14_get 1 := ⟨_, ⟨"java/util/List", "get", "(I)Ljava/lang/Object;"⟩, rfl, ew_q q1674, ew_qt q1428 rfl, ew_qt q1427 rfl, ew_q q1429, ew_q q1431, ew_qt q1432 rfl, ew_qt q1430 rfl, ew_qt q302 rfl, ⟨by decide +kernel, by decide +kernel⟩, by decide +kernel, w_J14_get, ew_q q139, by decide⟩
theorem fX6_70 : ew_F RX6 70 4 5 := ⟨RX5, TX5, 6, "EventWindows$Window", rfl, by decide, in_X5, Or.inr ⟨"EventWindows", ew_qt q1408 rfl⟩, Or.inl rfl⟩
theorem sX6_74 : ew_iS RX6 74 kX1_has 2 := ⟨Or.inr ⟨"EventWindows", ew_qt q1676 rfl⟩, ew_q q1379, ⟨by decide +kernel, by decide +kernel⟩, by decide +kernel, w_X1_has, ew_q q122, by decide⟩
theorem vX6_78 : ew_iV RX6 78 4 kX5_lay 3 := ⟨⟨_, rfl, ew_q q1679⟩, Or.inl (ew_q q1677), ew_q q1678, ⟨by decide +kernel, by decide +kernel⟩, by decide +kernel, w_X5_lay, ew_q q156, by decide⟩
theorem vX6_82 : ew_iV RX6 82 5 kX6_events 0 := ⟨⟨_, rfl, ew_q q292⟩, Or.inl (ew_q q1688), ew_q q291, ⟨by decide +kernel, by decide +kernel⟩, by decide +kernel, w_X6_events, ew_q q157, by decide⟩
theorem vX6_85 : ew_iV RX6 85 5 kX6_isFree 1 := ⟨⟨_, rfl, ew_q q1691⟩, Or.inl (ew_q q1689), ew_q q1690, ⟨by decide +kernel, by decide +kernel⟩, by decide +kernel, w_X6_isFree, ew_q q157, by decide⟩
theorem vX6_89 : ew_iV RX6 89 6 kX7_step 3 := ⟨⟨_, rfl, ew_q q1683⟩, Or.inl (ew_q q1693), ew_q q1682, ⟨by decide +kernel, by decide +kernel⟩, by decide +kernel, w_X7_step, ew_q q158, by decide⟩
theorem vX6_93 : ew_iV RX6 93 6 kX7_close 0 := ⟨⟨_, rfl, ew_q q1696⟩, Or.inl (ew_q q1694), ew_q q1695, ⟨by decide +kernel, by decide +kernel⟩, by decide +kernel, w_X7_close, ew_q q158, by decide⟩
theorem iX6_97 : ew_iI RX6 97 kJ14_init_2 1 := ⟨Or.inl (ew_q q1723), ew_q q1724, rfl, rfl, rfl, ⟨by decide +kernel, by decide +kernel⟩, by decide +kernel, w_J14_init_2, ew_q q139, by decide⟩
theorem vX6_100 : ew_iV RX6 100 4 kX5_hasBound 1 := ⟨⟨_, rfl, ew_q q1738⟩, Or.inl (ew_q q1736), ew_q q1737, ⟨by decide +kernel, by decide +kernel⟩, by decide +kernel, w_X5_hasBound, ew_q q156, by decide⟩
theorem nX6_104 : ew_N RX6 104 9 [.int 0, .int 0, .int 0, .int 0] := ⟨RX10, TX10, 4, tyX10, rfl, in_X10, tyX10_ok, ew_q q1740, ew_q q1741, ew_q q162, rfl, fun j h => (show ∀ j, j < 4 → defaultValue (tyX10 j) = vp_V [.int 0, .int 0, .int 0, .int 0] j by decide) j h⟩
theorem fX6_106 : ew_F RX6 106 4 0 := ⟨RX5, TX5, 6, "EventWindows$Window", rfl, by decide, in_X5, Or.inr ⟨"EventWindows", ew_qt q1393 rfl⟩, Or.inl rfl⟩
theorem fX6_109 : ew_F RX6 109 4 1 := ⟨RX5, TX5, 6, "EventWindows$Window", rfl, by decide, in_X5, Or.inr ⟨"EventWindows", ew_qt q1396 rfl⟩, Or.inl rfl⟩
theorem fX6_112 : ew_F RX6 112 4 3 := ⟨RX5, TX5, 6, "EventWindows$Window", rfl, by decide, in_X5, Or.inr ⟨"EventWindows", ew_qt q1402 rfl⟩, Or.inl rfl⟩
theorem iX6_115 : ew_iI RX6 115 kX10_init 4 := ⟨Or.inl (ew_q q1742), ew_q q1743, rfl, rfl, rfl, ⟨by decide +kernel, by decide +kernel⟩, by decide +kernel, w_X10_init, ew_q q162, by decide⟩
theorem tX6_51_19 : ew_iF RX6 51 19 kJ14_add 1 := ⟨_, ⟨"java/util/List", "add", "(Ljava/lang/Object;)Z"⟩, rfl, ew_q q1766, ew_qt q1233 rfl, ew_qt q1232 rfl, ew_q q1234, ew_q q1236, ew_qt q1237 rfl, ew_qt q1235 rfl, ew_qt q302 rfl, ⟨by decide +kernel, by decide +kernel⟩, by decide +kernel, w_J14_add, ew_q q139, by decide⟩
theorem fX6_118 : ew_F RX6 118 4 2 := ⟨RX5, TX5, 6, "EventWindows$Window", rfl, by decide, in_X5, Or.inr ⟨"EventWindows", ew_qt q1399 rfl⟩, Or.inl rfl⟩
theorem nX6_13 : ew_N RX6 13 5 [.null, .null, .null, .null, .null] := ⟨RX6, TX6, 5, tyX6, rfl, in_X6, tyX6_ok, ew_q q2440, ew_q q1443, ew_q q157, rfl, fun j h => (show ∀ j, j < 5 → defaultValue (tyX6 j) = vp_V [.null, .null, .null, .null, .null] j by decide) j h⟩
theorem iX6_32 : ew_iI RX6 32 kX6_init 1 := ⟨Or.inl (ew_q q2441), ew_q q1445, rfl, rfl, rfl, ⟨by decide +kernel, by decide +kernel⟩, by decide +kernel, w_X6_init, ew_q q157, by decide⟩
theorem vX6_47 : ew_iV RX6 47 4 kX5_copy 0 := ⟨⟨_, rfl, ew_q q2444⟩, Or.inl (ew_q q2442), ew_q q2443, ⟨by decide +kernel, by decide +kernel⟩, by decide +kernel, w_X5_copy, ew_q q156, by decide⟩
theorem fX6_61 : ew_F RX6 61 4 4 := ⟨RX5, TX5, 6, "EventWindows$Window", rfl, by decide, in_X5, Or.inr ⟨"EventWindows", ew_qt q1405 rfl⟩, Or.inl rfl⟩
theorem iX7_3 : ew_iI RX7 3 kJ31_init 0 := ⟨Or.inl (ew_q q1532), ew_q q177, rfl, rfl, rfl, ⟨by decide +kernel, by decide +kernel⟩, by decide +kernel, w_J31_init, ew_q q3350, by decide⟩
theorem fX7_9 : ew_F RX7 9 6 0 := ⟨RX7, TX7, 2, "EventWindows$Square", rfl, by decide, in_X7, Or.inl (ew_q q1533), Or.inl rfl⟩
theorem pX7_9 : ew_P RX7 9 6 0 .int true := ⟨RX7, TX7, 2, "EventWindows$Square", tyX7, rfl, by decide, in_X7, Or.inl (ew_q q1533), Or.inl rfl, tyX7_ok, nmX7, tyX7_ok 0 (by decide), rfl, fun _ => rfl⟩
theorem fX7_15 : ew_F RX7 15 6 1 := ⟨RX7, TX7, 2, "EventWindows$Square", rfl, by decide, in_X7, Or.inl (ew_q q1534), Or.inl rfl⟩
theorem pX7_15 : ew_P RX7 15 6 1 (.array .int) true := ⟨RX7, TX7, 2, "EventWindows$Square", tyX7, rfl, by decide, in_X7, Or.inl (ew_q q1534), Or.inl rfl, tyX7_ok, nmX7, tyX7_ok 1 (by decide), rfl, fun _ => rfl⟩
theorem sX7_27 : ew_iS RX7 27 kJ16_max 2 := ⟨Or.inl (ew_q q1686), ew_q q578, ⟨by decide +kernel, by decide +kernel⟩, by decide +kernel, w_J16_max, ew_q q141, by decide⟩
theorem sX7_33 : ew_iS RX7 33 kJ16_min 2 := ⟨Or.inl (ew_q q1687), ew_q q596, ⟨by decide +kernel, by decide +kernel⟩, by decide +kernel, w_J16_min, ew_q q141, by decide⟩
theorem vX7_36 : ew_iV RX7 36 6 kX7_sum 2 := ⟨⟨_, rfl, ew_q q1700⟩, Or.inl (ew_q q1698), ew_q q1699, ⟨by decide +kernel, by decide +kernel⟩, by decide +kernel, w_X7_sum, ew_q q158, by decide⟩
theorem vX7_39 : ew_iV RX7 39 6 kX7_step 3 := ⟨⟨_, rfl, ew_q q1683⟩, Or.inl (ew_q q1702), ew_q q1682, ⟨by decide +kernel, by decide +kernel⟩, by decide +kernel, w_X7_step, ew_q q158, by decide⟩
theorem vX7_50 : ew_iV RX7 50 6 kX7_hasLatest 1 := ⟨⟨_, rfl, ew_q q1890⟩, Or.inl (ew_q q1888), ew_q q1889, ⟨by decide +kernel, by decide +kernel⟩, by decide +kernel, w_X7_hasLatest, ew_q q158, by decide⟩
theorem vX7_46 : ew_iV RX7 46 6 kX7_latest 1 := ⟨⟨_, rfl, ew_q q1872⟩, Or.inl (ew_q q1892), ew_q q1871, ⟨by decide +kernel, by decide +kernel⟩, by decide +kernel, w_X7_latest, ew_q q158, by decide⟩
theorem vX7_54 : ew_iV RX7 54 6 kX7_earliest 1 := ⟨⟨_, rfl, ew_q q1861⟩, Or.inl (ew_q q1893), ew_q q1860, ⟨by decide +kernel, by decide +kernel⟩, by decide +kernel, w_X7_earliest, ew_q q158, by decide⟩
theorem vX7_43 : ew_iV RX7 43 6 kX7_joins 3 := ⟨⟨_, rfl, ew_q qs39⟩, Or.inl (ew_q q2268), ew_q q2270, ⟨by decide +kernel, by decide +kernel⟩, by decide +kernel, w_X7_joins, ew_q q158, by decide⟩
theorem iX8_3 : ew_iI RX8 3 kJ31_init 0 := ⟨Or.inl (ew_q q1545), ew_q q177, rfl, rfl, rfl, ⟨by decide +kernel, by decide +kernel⟩, by decide +kernel, w_J31_init, ew_q q3350, by decide⟩
theorem nX8_9 : ew_N RX8 9 6 [.int 0, .null] := ⟨RX7, TX7, 2, tyX7, rfl, in_X7, tyX7_ok, ew_q q1546, ew_q q1528, ew_q q158, rfl, fun j h => (show ∀ j, j < 2 → defaultValue (tyX7 j) = vp_V [.int 0, .null] j by decide) j h⟩
theorem iX8_11 : ew_iI RX8 11 kX7_init 1 := ⟨Or.inl (ew_q q1547), ew_q q1530, rfl, rfl, rfl, ⟨by decide +kernel, by decide +kernel⟩, by decide +kernel, w_X7_init, ew_q q158, by decide⟩
theorem fX8_14 : ew_F RX8 14 7 0 := ⟨RX8, TX8, 5, "EventWindows$Run", rfl, by decide, in_X8, Or.inl (ew_q q1548), Or.inl rfl⟩
theorem pX8_14 : ew_P RX8 14 7 0 (.object "EventWindows$Square") true := ⟨RX8, TX8, 5, "EventWindows$Run", tyX8, rfl, by decide, in_X8, Or.inl (ew_q q1548), Or.inl rfl, tyX8_ok, nmX8, tyX8_ok 0 (by decide), rfl, fun _ => rfl⟩
theorem fX8_20 : ew_F RX8 20 7 1 := ⟨RX8, TX8, 5, "EventWindows$Run", rfl, by decide, in_X8, Or.inl (ew_q q1549), Or.inl rfl⟩
theorem pX8_20 : ew_P RX8 20 7 1 (.array .int) true := ⟨RX8, TX8, 5, "EventWindows$Run", tyX8, rfl, by decide, in_X8, Or.inl (ew_q q1549), Or.inl rfl, tyX8_ok, nmX8, tyX8_ok 1 (by decide), rfl, fun _ => rfl⟩
theorem fX8_24 : ew_F RX8 24 7 2 := ⟨RX8, TX8, 5, "EventWindows$Run", rfl, by decide, in_X8, Or.inl (ew_q q1551), Or.inl rfl⟩
theorem pX8_24 : ew_P RX8 24 7 2 (.array .int) true := ⟨RX8, TX8, 5, "EventWindows$Run", tyX8, rfl, by decide, in_X8, Or.inl (ew_q q1551), Or.inl rfl, tyX8_ok, nmX8, tyX8_ok 2 (by decide), rfl, fun _ => rfl⟩
theorem vX8_54 : ew_iV RX8 54 6 kX7_copies 1 := ⟨⟨_, rfl, ew_q q2242⟩, Or.inl (ew_q q2240), ew_q q2241, ⟨by decide +kernel, by decide +kernel⟩, by decide +kernel, w_X7_copies, ew_q q158, by decide⟩
theorem fX8_27 : ew_F RX8 27 7 3 := ⟨RX8, TX8, 5, "EventWindows$Run", rfl, by decide, in_X8, Or.inl (ew_q q1553), Or.inl rfl⟩
theorem pX8_27 : ew_P RX8 27 7 3 .int false := ⟨RX8, TX8, 5, "EventWindows$Run", tyX8, rfl, by decide, in_X8, Or.inl (ew_q q1553), Or.inl rfl, tyX8_ok, nmX8, tyX8_ok 3 (by decide), rfl, fun h => nomatch h⟩
theorem fX8_58 : ew_F RX8 58 7 4 := ⟨RX8, TX8, 5, "EventWindows$Run", rfl, by decide, in_X8, Or.inl (ew_q q1555), Or.inl rfl⟩
theorem pX8_58 : ew_P RX8 58 7 4 .int false := ⟨RX8, TX8, 5, "EventWindows$Run", tyX8, rfl, by decide, in_X8, Or.inl (ew_q q1555), Or.inl rfl, tyX8_ok, nmX8, tyX8_ok 4 (by decide), rfl, fun h => nomatch h⟩
theorem vX8_61 : ew_iV RX8 61 5 kX6_isFree 1 := ⟨⟨_, rfl, ew_q q1691⟩, Or.inl (ew_q q2245), ew_q q1690, ⟨by decide +kernel, by decide +kernel⟩, by decide +kernel, w_X6_isFree, ew_q q157, by decide⟩
theorem fX8_66 : ew_F RX8 66 5 2 := ⟨RX6, TX6, 5, "EventWindows$Net", rfl, by decide, in_X6, Or.inr ⟨"EventWindows", ew_qt q1456 rfl⟩, Or.inl rfl⟩
theorem vX8_69 : ew_iV RX8 69 7 kX8_gives 2 := ⟨⟨_, rfl, ew_q qs36⟩, Or.inl (ew_q q2246), ew_q q2248, ⟨by decide +kernel, by decide +kernel⟩, by decide +kernel, w_X8_gives, ew_q q159, by decide⟩
theorem vX8_73 : ew_iV RX8 73 7 kX8_next 0 := ⟨⟨_, rfl, ew_q qs37⟩, Or.inl (ew_q q2250), ew_q q2252, ⟨by decide +kernel, by decide +kernel⟩, by decide +kernel, w_X8_next, ew_q q159, by decide⟩
theorem fX8_77 : ew_F RX8 77 5 4 := ⟨RX6, TX6, 5, "EventWindows$Net", rfl, by decide, in_X6, Or.inr ⟨"EventWindows", ew_qt q1464 rfl⟩, Or.inl rfl⟩
theorem vX8_80 : ew_iV RX8 80 7 kX8_planned 3 := ⟨⟨_, rfl, ew_q qs38⟩, Or.inl (ew_q q2255), ew_q q2257, ⟨by decide +kernel, by decide +kernel⟩, by decide +kernel, w_X8_planned, ew_q q159, by decide⟩
theorem fX8_84 : ew_F RX8 84 5 3 := ⟨RX6, TX6, 5, "EventWindows$Net", rfl, by decide, in_X6, Or.inr ⟨"EventWindows", ew_qt q1460 rfl⟩, Or.inl rfl⟩
theorem vX8_39 : ew_iV RX8 39 6 kX7_latest 1 := ⟨⟨_, rfl, ew_q q1872⟩, Or.inl (ew_q q2260), ew_q q1871, ⟨by decide +kernel, by decide +kernel⟩, by decide +kernel, w_X7_latest, ew_q q158, by decide⟩
theorem vX8_87 : ew_iV RX8 87 6 kX7_fix 2 := ⟨⟨_, rfl, ew_q q2266⟩, Or.inl (ew_q q2264), ew_q q2265, ⟨by decide +kernel, by decide +kernel⟩, by decide +kernel, w_X7_fix, ew_q q158, by decide⟩
theorem vX8_31 : ew_iV RX8 31 6 kX7_earliest 1 := ⟨⟨_, rfl, ew_q q1861⟩, Or.inl (ew_q q2254), ew_q q1860, ⟨by decide +kernel, by decide +kernel⟩, by decide +kernel, w_X7_earliest, ew_q q158, by decide⟩
theorem vX8_35 : ew_iV RX8 35 6 kX7_hasLatest 1 := ⟨⟨_, rfl, ew_q q1890⟩, Or.inl (ew_q q2259), ew_q q1889, ⟨by decide +kernel, by decide +kernel⟩, by decide +kernel, w_X7_hasLatest, ew_q q158, by decide⟩
theorem vX8_42 : ew_iV RX8 42 6 kX7_slack 1 := ⟨⟨_, rfl, ew_q q1886⟩, Or.inl (ew_q q2261), ew_q q1885, ⟨by decide +kernel, by decide +kernel⟩, by decide +kernel, w_X7_slack, ew_q q158, by decide⟩
theorem sX8_45 : ew_iS RX8 45 kJ16_min 2 := ⟨Or.inl (ew_q q2262), ew_q q596, ⟨by decide +kernel, by decide +kernel⟩, by decide +kernel, w_J16_min, ew_q q141, by decide⟩
theorem sX8_51 : ew_iS RX8 51 kJ16_max 2 := ⟨Or.inl (ew_q q2263), ew_q q578, ⟨by decide +kernel, by decide +kernel⟩, by decide +kernel, w_J16_max, ew_q q141, by decide⟩
theorem iX9_3 : ew_iI RX9 3 kJ31_init 0 := ⟨Or.inl (ew_q q1770), ew_q q177, rfl, rfl, rfl, ⟨by decide +kernel, by decide +kernel⟩, by decide +kernel, w_J31_init, ew_q q3350, by decide⟩
theorem fX9_9 : ew_F RX9 9 8 0 := ⟨RX9, TX9, 3, "EventWindows$Ways", rfl, by decide, in_X9, Or.inl (ew_q q1772), Or.inl rfl⟩
theorem pX9_9 : ew_P RX9 9 8 0 (.object "java/util/List") true := ⟨RX9, TX9, 3, "EventWindows$Ways", tyX9, rfl, by decide, in_X9, Or.inl (ew_q q1772), Or.inl rfl, tyX9_ok, nmX9, tyX9_ok 0 (by decide), rfl, fun _ => rfl⟩
theorem vX9_15 : ew_iV RX9 15 5 kX6_events 0 := ⟨⟨_, rfl, ew_q q292⟩, Or.inl (ew_q q1771), ew_q q291, ⟨by decide +kernel, by decide +kernel⟩, by decide +kernel, w_X6_events, ew_q q157, by decide⟩
theorem fX9_21 : ew_F RX9 21 8 1 := ⟨RX9, TX9, 3, "EventWindows$Ways", rfl, by decide, in_X9, Or.inl (ew_q q1773), Or.inl rfl⟩
theorem pX9_21 : ew_P RX9 21 8 1 .int true := ⟨RX9, TX9, 3, "EventWindows$Ways", tyX9, rfl, by decide, in_X9, Or.inl (ew_q q1773), Or.inl rfl, tyX9_ok, nmX9, tyX9_ok 1 (by decide), rfl, fun _ => rfl⟩
theorem fX9_24 : ew_F RX9 24 8 2 := ⟨RX9, TX9, 3, "EventWindows$Ways", rfl, by decide, in_X9, Or.inl (ew_q q1774), Or.inl rfl⟩
theorem pX9_24 : ew_P RX9 24 8 2 (.array .int) true := ⟨RX9, TX9, 3, "EventWindows$Ways", tyX9, rfl, by decide, in_X9, Or.inl (ew_q q1774), Or.inl rfl, tyX9_ok, nmX9, tyX9_ok 2 (by decide), rfl, fun _ => rfl⟩
theorem tX9_29_19 : ew_iF RX9 29 19 kJ14_size 0 := ⟨_, ⟨"java/util/List", "size", "()I"⟩, rfl, ew_q q1788, ew_qt q301 rfl, ew_qt q300 rfl, ew_q q303, ew_q q305, ew_qt q306 rfl, ew_qt q304 rfl, ew_qt q302 rfl, ⟨by decide +kernel, by decide +kernel⟩, by decide +kernel, w_J14_size, ew_q q139, by decide⟩
theorem tX9_34_19 : ew_iF RX9 34 19 kJ14_get 1 := ⟨_, ⟨"java/util/List", "get", "(I)Ljava/lang/Object;"⟩, rfl, ew_q q1790, ew_qt q1428 rfl, ew_qt q1427 rfl, ew_q q1429, ew_q q1431, ew_qt q1432 rfl, ew_qt q1430 rfl, ew_qt q302 rfl, ⟨by decide +kernel, by decide +kernel⟩, by decide +kernel, w_J14_get, ew_q q139, by decide⟩
theorem fX9_40 : ew_F RX9 40 9 2 := ⟨RX10, TX10, 4, "EventWindows$Step", rfl, by decide, in_X10, Or.inr ⟨"EventWindows", ew_qt q1752 rfl⟩, Or.inl rfl⟩
theorem vX9_43 : ew_iV RX9 43 8 kX9_sum 2 := ⟨⟨_, rfl, ew_q q1794⟩, Or.inl (ew_q q1792), ew_q q1793, ⟨by decide +kernel, by decide +kernel⟩, by decide +kernel, w_X9_sum, ew_q q161, by decide⟩
theorem fX9_47 : ew_F RX9 47 9 1 := ⟨RX10, TX10, 4, "EventWindows$Step", rfl, by decide, in_X10, Or.inr ⟨"EventWindows", ew_qt q1749 rfl⟩, Or.inl rfl⟩
theorem fX9_50 : ew_F RX9 50 9 3 := ⟨RX10, TX10, 4, "EventWindows$Step", rfl, by decide, in_X10, Or.inr ⟨"EventWindows", ew_qt q1754 rfl⟩, Or.inl rfl⟩
theorem sX9_52 : ew_iS RX9 52 kJ16_min 2 := ⟨Or.inl (ew_q q1796), ew_q q596, ⟨by decide +kernel, by decide +kernel⟩, by decide +kernel, w_J16_min, ew_q q141, by decide⟩
theorem nX9_57 : ew_N RX9 57 19 [.int 0, .null, .int 0] := ⟨RJ14, TJ14, 3, tyJ14, rfl, in_J14, tyJ14_ok, ew_q q1805, ew_q q473, ew_q q139, rfl, fun j h => (show ∀ j, j < 3 → defaultValue (tyJ14 j) = vp_V [.int 0, .null, .int 0] j by decide) j h⟩
theorem iX9_59 : ew_iI RX9 59 kJ14_init_2 1 := ⟨Or.inl (ew_q q1806), ew_q q1724, rfl, rfl, rfl, ⟨by decide +kernel, by decide +kernel⟩, by decide +kernel, w_J14_init_2, ew_q q139, by decide⟩
theorem tX9_62_19 : ew_iF RX9 62 19 kJ14_add 1 := ⟨_, ⟨"java/util/List", "add", "(Ljava/lang/Object;)Z"⟩, rfl, ew_q q1808, ew_qt q1233 rfl, ew_qt q1232 rfl, ew_q q1234, ew_q q1236, ew_qt q1237 rfl, ew_qt q1235 rfl, ew_qt q302 rfl, ⟨by decide +kernel, by decide +kernel⟩, by decide +kernel, w_J14_add, ew_q q139, by decide⟩
theorem iJ0_1 : ew_iI RJ0 1 kJ31_init 0 := ⟨Or.inl (ew_q q187), ew_q q177, rfl, rfl, rfl, ⟨by decide +kernel, by decide +kernel⟩, by decide +kernel, w_J31_init, ew_q q3350, by decide⟩
theorem iJ1_42 : ew_iI RJ1 42 kJ0_init 0 := ⟨Or.inl (ew_q q184), ew_q q185, rfl, rfl, rfl, ⟨by decide +kernel, by decide +kernel⟩, by decide +kernel, w_J0_init, ew_q q123, by decide⟩
theorem fJ1_3 : ew_F RJ1 3 15 0 := ⟨RJ1, TJ1, 3, "java/util/ArrayDeque", rfl, by decide, in_J1, Or.inl (ew_q q190), Or.inl rfl⟩
theorem pJ1_3 : ew_P RJ1 3 15 0 (.array (.object "java/lang/Object")) false := ⟨RJ1, TJ1, 3, "java/util/ArrayDeque", tyJ1, rfl, by decide, in_J1, Or.inl (ew_q q190), Or.inl rfl, tyJ1_ok, nmJ1, tyJ1_ok 0 (by decide), rfl, fun h => nomatch h⟩
theorem fJ1_20 : ew_F RJ1 20 15 2 := ⟨RJ1, TJ1, 3, "java/util/ArrayDeque", rfl, by decide, in_J1, Or.inl (ew_q q192), Or.inl rfl⟩
theorem fJ1_24 : ew_F RJ1 24 15 1 := ⟨RJ1, TJ1, 3, "java/util/ArrayDeque", rfl, by decide, in_J1, Or.inl (ew_q q191), Or.inl rfl⟩
theorem sJ1_127 : ew_iS RJ1 127 kJ1_sub 3 := ⟨Or.inl (ew_q q316), ew_q q317, ⟨by decide +kernel, by decide +kernel⟩, by decide +kernel, w_J1_sub, ew_q q124, by decide⟩
theorem vJ1_189 : ew_iV RJ1 189 15 kJ1_toArray_2 1 := ⟨⟨_, rfl, ew_q qs20⟩, Or.inl (ew_q q1498), ew_q q1500, ⟨by decide +kernel, by decide +kernel⟩, by decide +kernel, w_J1_toArray_2, ew_q q124, by decide⟩
theorem sJ1_193 : ew_iS RJ1 193 kJ17_copyOfRange_2 4 := ⟨Or.inl (ew_q q1502), ew_q q1503, ⟨by decide +kernel, by decide +kernel⟩, by decide +kernel, w_J17_copyOfRange_2, ew_q q142, by decide⟩
theorem sJ1_181 : ew_iS RJ1 181 kJ1_circularClear 3 := ⟨Or.inl (ew_q q1524), ew_q q1525, ⟨by decide +kernel, by decide +kernel⟩, by decide +kernel, w_J1_circularClear, ew_q q124, by decide⟩
theorem pJ1_20 : ew_P RJ1 20 15 2 .int false := ⟨RJ1, TJ1, 3, "java/util/ArrayDeque", tyJ1, rfl, by decide, in_J1, Or.inl (ew_q q192), Or.inl rfl, tyJ1_ok, nmJ1, tyJ1_ok 2 (by decide), rfl, fun h => nomatch h⟩
theorem pJ1_24 : ew_P RJ1 24 15 1 .int false := ⟨RJ1, TJ1, 3, "java/util/ArrayDeque", tyJ1, rfl, by decide, in_J1, Or.inl (ew_q q191), Or.inl rfl, tyJ1_ok, nmJ1, tyJ1_ok 1 (by decide), rfl, fun h => nomatch h⟩
theorem vJ1_93 : ew_iV RJ1 93 15 kJ1_pollFirst 0 := ⟨⟨_, rfl, ew_q q2428⟩, Or.inl (ew_q q2426), ew_q q2427, ⟨by decide +kernel, by decide +kernel⟩, by decide +kernel, w_J1_pollFirst, ew_q q124, by decide⟩
theorem sJ1_103 : ew_iS RJ1 103 kJ1_elementAt 2 := ⟨Or.inl (ew_q q2430), ew_q q2431, ⟨by decide +kernel, by decide +kernel⟩, by decide +kernel, w_J1_elementAt, ew_q q124, by decide⟩
theorem sJ1_74 : ew_iS RJ1 74 kJ1_inc 2 := ⟨Or.inl (ew_q q2433), ew_q q2434, ⟨by decide +kernel, by decide +kernel⟩, by decide +kernel, w_J1_inc, ew_q q124, by decide⟩
theorem vJ1_71 : ew_iV RJ1 71 15 kJ1_grow 1 := ⟨⟨_, rfl, ew_q qs42⟩, Or.inl (ew_q q2453), ew_q q2455, ⟨by decide +kernel, by decide +kernel⟩, by decide +kernel, w_J1_grow, ew_q q124, by decide⟩
theorem vJ1_10 : ew_iV RJ1 10 15 kJ1_newCapacity 2 := ⟨⟨_, rfl, ew_q qs43⟩, Or.inl (ew_q q2458), ew_q q2460, ⟨by decide +kernel, by decide +kernel⟩, by decide +kernel, w_J1_newCapacity, ew_q q124, by decide⟩
theorem sJ1_14 : ew_iS RJ1 14 kJ17_copyOf_2 2 := ⟨Or.inl (ew_q q2469), ew_q q1253, ⟨by decide +kernel, by decide +kernel⟩, by decide +kernel, w_J17_copyOf_2, ew_q q142, by decide⟩
theorem vJ1_100 : ew_iV RJ1 100 15 kJ1_pollLast 0 := ⟨⟨_, rfl, ew_q q2574⟩, Or.inl (ew_q q2572), ew_q q2573, ⟨by decide +kernel, by decide +kernel⟩, by decide +kernel, w_J1_pollLast, ew_q q124, by decide⟩
theorem sJ1_68 : ew_iS RJ1 68 kJ1_dec 2 := ⟨Or.inl (ew_q q2576), ew_q q2577, ⟨by decide +kernel, by decide +kernel⟩, by decide +kernel, w_J1_dec, ew_q q124, by decide⟩
theorem iJ11_1 : ew_iI RJ11 1 kJ31_init 0 := ⟨Or.inl (ew_q q448), ew_q q177, rfl, rfl, rfl, ⟨by decide +kernel, by decide +kernel⟩, by decide +kernel, w_J31_init, ew_q q3350, by decide⟩
theorem iJ12_1 : ew_iI RJ12 1 kJ11_init 0 := ⟨Or.inl (ew_q q445), ew_q q446, rfl, rfl, rfl, ⟨by decide +kernel, by decide +kernel⟩, by decide +kernel, w_J11_init, ew_q q136, by decide⟩
theorem fJ12_7 : ew_F RJ12 7 18 4 := ⟨RJ12, TJ12, 9, "java/util/TreeMap", rfl, by decide, in_J12, Or.inl (ew_q q451), Or.inl rfl⟩
theorem pJ12_7 : ew_P RJ12 7 18 4 .int false := ⟨RJ12, TJ12, 9, "java/util/TreeMap", tyJ12, rfl, by decide, in_J12, Or.inl (ew_q q451), Or.inl rfl, tyJ12_ok, nmJ12, tyJ12_ok 4 (by decide), rfl, fun h => nomatch h⟩
theorem fJ12_13 : ew_F RJ12 13 18 5 := ⟨RJ12, TJ12, 9, "java/util/TreeMap", rfl, by decide, in_J12, Or.inl (ew_q q452), Or.inl rfl⟩
theorem pJ12_13 : ew_P RJ12 13 18 5 .int false := ⟨RJ12, TJ12, 9, "java/util/TreeMap", tyJ12, rfl, by decide, in_J12, Or.inl (ew_q q452), Or.inl rfl, tyJ12_ok, nmJ12, tyJ12_ok 5 (by decide), rfl, fun h => nomatch h⟩
theorem fJ12_16 : ew_F RJ12 16 18 2 := ⟨RJ12, TJ12, 9, "java/util/TreeMap", rfl, by decide, in_J12, Or.inl (ew_q q449), Or.inl rfl⟩
theorem pJ12_16 : ew_P RJ12 16 18 2 (.object "java/util/Comparator") true := ⟨RJ12, TJ12, 9, "java/util/TreeMap", tyJ12, rfl, by decide, in_J12, Or.inl (ew_q q449), Or.inl rfl, tyJ12_ok, nmJ12, tyJ12_ok 2 (by decide), rfl, fun _ => rfl⟩
theorem vJ12_50 : ew_iV RJ12 50 18 kJ12_getEntry 1 := ⟨⟨_, rfl, ew_q q885⟩, Or.inl (ew_q q883), ew_q q884, ⟨by decide +kernel, by decide +kernel⟩, by decide +kernel, w_J12_getEntry, ew_q q137, by decide⟩
theorem vJ12_92 : ew_iV RJ12 92 18 kJ12_getEntryUsingComparator 1 := ⟨⟨_, rfl, ew_q q889⟩, Or.inl (ew_q q887), ew_q q888, ⟨by decide +kernel, by decide +kernel⟩, by decide +kernel, w_J12_getEntryUsingComparator, ew_q q137, by decide⟩
theorem sJ12_95 : ew_iS RJ12 95 kJ25_requireNonNull 1 := ⟨Or.inl (ew_q q1126), ew_q q1127, ⟨by decide +kernel, by decide +kernel⟩, by decide +kernel, w_J25_requireNonNull, ew_q q153, by decide⟩
theorem fJ12_101 : ew_F RJ12 101 18 3 := ⟨RJ12, TJ12, 9, "java/util/TreeMap", rfl, by decide, in_J12, Or.inl (ew_q q450), Or.inl rfl⟩
theorem fJ12_105 : ew_F RJ12 105 21 0 := ⟨RJ26, TJ26, 6, "java/util/TreeMap$Entry", rfl, by decide, in_J26, Or.inl (ew_q q1176), Or.inl rfl⟩
theorem tJ12_107_17 : ew_iF RJ12 107 17 kJ4_compareTo 1 := ⟨_, ⟨"java/lang/Comparable", "compareTo", "(Ljava/lang/Object;)I"⟩, rfl, ew_q q1131, ew_qt q923 rfl, ew_qt q922 rfl, ew_q q949, ew_q q951, ew_qt q952 rfl, ew_qt q950 rfl, ew_qt q948 rfl, ⟨by decide +kernel, by decide +kernel⟩, by decide +kernel, w_J4_compareTo, ew_q q127, by decide⟩
theorem tJ12_107_10 : ew_iF RJ12 107 10 kX11_compareTo 1 := ⟨_, ⟨"java/lang/Comparable", "compareTo", "(Ljava/lang/Object;)I"⟩, rfl, ew_q q1131, ew_qt q923 rfl, ew_qt q922 rfl, ew_q q925, ew_q q927, ew_qt q928 rfl, ew_qt q926 rfl, ew_qt q924 rfl, ⟨by decide +kernel, by decide +kernel⟩, by decide +kernel, w_X11_compareTo, ew_q q163, by decide⟩
theorem fJ12_111 : ew_F RJ12 111 21 2 := ⟨RJ26, TJ26, 6, "java/util/TreeMap$Entry", rfl, by decide, in_J26, Or.inl (ew_q q1179), Or.inl rfl⟩
theorem fJ12_114 : ew_F RJ12 114 21 3 := ⟨RJ26, TJ26, 6, "java/util/TreeMap$Entry", rfl, by decide, in_J26, Or.inl (ew_q q1180), Or.inl rfl⟩
theorem tJ12_117_12 : ew_iF RJ12 117 12 kX13_compare 2 := ⟨_, ⟨"java/util/Comparator", "compare", "(Ljava/lang/Object;Ljava/lang/Object;)I"⟩, rfl, ew_q q892, ew_qt q894 rfl, ew_qt q893 rfl, ew_q q910, ew_q q912, ew_qt q913 rfl, ew_qt q911 rfl, ew_qt q909 rfl, ⟨by decide +kernel, by decide +kernel⟩, by decide +kernel, w_X13_compare, ew_q q165, by decide⟩
theorem tJ12_117_13 : ew_iF RJ12 117 13 kX14_compare 2 := ⟨_, ⟨"java/util/Comparator", "compare", "(Ljava/lang/Object;Ljava/lang/Object;)I"⟩, rfl, ew_q q892, ew_qt q894 rfl, ew_qt q893 rfl, ew_q q896, ew_q q898, ew_qt q899 rfl, ew_qt q897 rfl, ew_qt q895 rfl, ⟨by decide +kernel, by decide +kernel⟩, by decide +kernel, w_X14_compare, ew_q q168, by decide⟩
theorem vJ12_127 : ew_iV RJ12 127 18 kJ12_put_2 3 := ⟨⟨_, rfl, ew_q qs7⟩, Or.inl (ew_q q1157), ew_q q1159, ⟨by decide +kernel, by decide +kernel⟩, by decide +kernel, w_J12_put_2, ew_q q137, by decide⟩
theorem vJ12_135 : ew_iV RJ12 135 18 kJ12_addEntryToEmptyMap 2 := ⟨⟨_, rfl, ew_q qs8⟩, Or.inl (ew_q q1161), ew_q q1163, ⟨by decide +kernel, by decide +kernel⟩, by decide +kernel, w_J12_addEntryToEmptyMap, ew_q q137, by decide⟩
theorem fJ12_58 : ew_F RJ12 58 21 1 := ⟨RJ26, TJ26, 6, "java/util/TreeMap$Entry", rfl, by decide, in_J26, Or.inl (ew_q q1178), Or.inl rfl⟩
theorem pJ12_58 : ew_P RJ12 58 21 1 (.object "java/lang/Object") false := ⟨RJ26, TJ26, 6, "java/util/TreeMap$Entry", tyJ26, rfl, by decide, in_J26, Or.inl (ew_q q1178), Or.inl rfl, tyJ26_ok, nmJ26, tyJ26_ok 1 (by decide), rfl, fun h => nomatch h⟩
theorem vJ12_139 : ew_iV RJ12 139 18 kJ12_addEntry 4 := ⟨⟨_, rfl, ew_q qs9⟩, Or.inl (ew_q q1198), ew_q q1200, ⟨by decide +kernel, by decide +kernel⟩, by decide +kernel, w_J12_addEntry, ew_q q137, by decide⟩
theorem vJ12_123 : ew_iV RJ12 123 18 kJ12_compare 2 := ⟨⟨_, rfl, ew_q q1167⟩, Or.inl (ew_q q1165), ew_q q1166, ⟨by decide +kernel, by decide +kernel⟩, by decide +kernel, w_J12_compare, ew_q q137, by decide⟩
theorem nJ12_59 : ew_N RJ12 59 21 [.null, .null, .null, .null, .null, .int 0] := ⟨RJ26, TJ26, 6, tyJ26, rfl, in_J26, tyJ26_ok, ew_q q1169, ew_q q1170, ew_q q155, rfl, fun j h => (show ∀ j, j < 6 → defaultValue (tyJ26 j) = vp_V [.null, .null, .null, .null, .null, .int 0] j by decide) j h⟩
theorem iJ12_167 : ew_iI RJ12 167 kJ26_init 3 := ⟨Or.inl (ew_q q1171), ew_q q1172, rfl, rfl, rfl, ⟨by decide +kernel, by decide +kernel⟩, by decide +kernel, w_J26_init, ew_q q155, by decide⟩
theorem pJ12_101 : ew_P RJ12 101 18 3 (.object "java/util/TreeMap$Entry") false := ⟨RJ12, TJ12, 9, "java/util/TreeMap", tyJ12, rfl, by decide, in_J12, Or.inl (ew_q q450), Or.inl rfl, tyJ12_ok, nmJ12, tyJ12_ok 3 (by decide), rfl, fun h => nomatch h⟩
theorem pJ12_111 : ew_P RJ12 111 21 2 (.object "java/util/TreeMap$Entry") false := ⟨RJ26, TJ26, 6, "java/util/TreeMap$Entry", tyJ26, rfl, by decide, in_J26, Or.inl (ew_q q1179), Or.inl rfl, tyJ26_ok, nmJ26, tyJ26_ok 2 (by decide), rfl, fun h => nomatch h⟩
theorem pJ12_114 : ew_P RJ12 114 21 3 (.object "java/util/TreeMap$Entry") false := ⟨RJ26, TJ26, 6, "java/util/TreeMap$Entry", tyJ26, rfl, by decide, in_J26, Or.inl (ew_q q1180), Or.inl rfl, tyJ26_ok, nmJ26, tyJ26_ok 3 (by decide), rfl, fun h => nomatch h⟩
theorem vJ12_170 : ew_iV RJ12 170 18 kJ12_fixAfterInsertion 1 := ⟨⟨_, rfl, ew_q qs10⟩, Or.inl (ew_q q1202), ew_q q1204, ⟨by decide +kernel, by decide +kernel⟩, by decide +kernel, w_J12_fixAfterInsertion, ew_q q137, by decide⟩
theorem fJ12_290 : ew_F RJ12 290 21 5 := ⟨RJ26, TJ26, 6, "java/util/TreeMap$Entry", rfl, by decide, in_J26, Or.inl (ew_q q1184), Or.inl rfl⟩
theorem pJ12_290 : ew_P RJ12 290 21 5 .boolean false := ⟨RJ26, TJ26, 6, "java/util/TreeMap$Entry", tyJ26, rfl, by decide, in_J26, Or.inl (ew_q q1184), Or.inl rfl, tyJ26_ok, nmJ26, tyJ26_ok 5 (by decide), rfl, fun h => nomatch h⟩
theorem fJ12_124 : ew_F RJ12 124 21 4 := ⟨RJ26, TJ26, 6, "java/util/TreeMap$Entry", rfl, by decide, in_J26, Or.inl (ew_q q1182), Or.inl rfl⟩
theorem sJ12_294 : ew_iS RJ12 294 kJ12_parentOf 1 := ⟨Or.inl (ew_q q1206), ew_q q1207, ⟨by decide +kernel, by decide +kernel⟩, by decide +kernel, w_J12_parentOf, ew_q q137, by decide⟩
theorem sJ12_297 : ew_iS RJ12 297 kJ12_leftOf 1 := ⟨Or.inl (ew_q q1209), ew_q q1210, ⟨by decide +kernel, by decide +kernel⟩, by decide +kernel, w_J12_leftOf, ew_q q137, by decide⟩
theorem sJ12_300 : ew_iS RJ12 300 kJ12_rightOf 1 := ⟨Or.inl (ew_q q1212), ew_q q1213, ⟨by decide +kernel, by decide +kernel⟩, by decide +kernel, w_J12_rightOf, ew_q q137, by decide⟩
theorem sJ12_303 : ew_iS RJ12 303 kJ12_colorOf 1 := ⟨Or.inl (ew_q q1215), ew_q q1216, ⟨by decide +kernel, by decide +kernel⟩, by decide +kernel, w_J12_colorOf, ew_q q137, by decide⟩
theorem sJ12_307 : ew_iS RJ12 307 kJ12_setColor 2 := ⟨Or.inl (ew_q q1218), ew_q q1219, ⟨by decide +kernel, by decide +kernel⟩, by decide +kernel, w_J12_setColor, ew_q q137, by decide⟩
theorem vJ12_311 : ew_iV RJ12 311 18 kJ12_rotateLeft 1 := ⟨⟨_, rfl, ew_q qs11⟩, Or.inl (ew_q q1221), ew_q q1223, ⟨by decide +kernel, by decide +kernel⟩, by decide +kernel, w_J12_rotateLeft, ew_q q137, by decide⟩
theorem vJ12_314 : ew_iV RJ12 314 18 kJ12_rotateRight 1 := ⟨⟨_, rfl, ew_q qs12⟩, Or.inl (ew_q q1225), ew_q q1227, ⟨by decide +kernel, by decide +kernel⟩, by decide +kernel, w_J12_rotateRight, ew_q q137, by decide⟩
theorem pJ12_124 : ew_P RJ12 124 21 4 (.object "java/util/TreeMap$Entry") false := ⟨RJ26, TJ26, 6, "java/util/TreeMap$Entry", tyJ26, rfl, by decide, in_J26, Or.inl (ew_q q1182), Or.inl rfl, tyJ26_ok, nmJ26, tyJ26_ok 4 (by decide), rfl, fun h => nomatch h⟩
theorem iJ13_1 : ew_iI RJ13 1 kJ0_init 0 := ⟨Or.inl (ew_q q480), ew_q q185, rfl, rfl, rfl, ⟨by decide +kernel, by decide +kernel⟩, by decide +kernel, w_J0_init, ew_q q123, by decide⟩
theorem fJ13_7 : ew_F RJ13 7 19 0 := ⟨RJ14, TJ14, 3, "java/util/AbstractList", rfl, by decide, in_J14, Or.inl (ew_q q485), Or.inl rfl⟩
theorem pJ13_7 : ew_P RJ13 7 19 0 .int false := ⟨RJ14, TJ14, 3, "java/util/AbstractList", tyJ14, rfl, by decide, in_J14, Or.inl (ew_q q485), Or.inl rfl, tyJ14_ok, nmJ14, tyJ14_ok 0 (by decide), rfl, fun h => nomatch h⟩
theorem fJ14_48 : ew_F RJ14 48 19 2 := ⟨RJ14, TJ14, 3, "java/util/ArrayList", rfl, by decide, in_J14, Or.inl (ew_q q484), Or.inl rfl⟩
theorem iJ14_1 : ew_iI RJ14 1 kJ13_init 0 := ⟨Or.inl (ew_q q477), ew_q q478, rfl, rfl, rfl, ⟨by decide +kernel, by decide +kernel⟩, by decide +kernel, w_J13_init, ew_q q138, by decide⟩
theorem fJ14_9 : ew_F RJ14 9 19 1 := ⟨RJ14, TJ14, 3, "java/util/ArrayList", rfl, by decide, in_J14, Or.inl (ew_q q483), Or.inl rfl⟩
theorem pJ14_9 : ew_P RJ14 9 19 1 (.array (.object "java/lang/Object")) false := ⟨RJ14, TJ14, 3, "java/util/ArrayList", tyJ14, rfl, by decide, in_J14, Or.inl (ew_q q483), Or.inl rfl, tyJ14_ok, nmJ14, tyJ14_ok 1 (by decide), rfl, fun h => nomatch h⟩
theorem fJ14_63 : ew_F RJ14 63 19 0 := ⟨RJ14, TJ14, 3, "java/util/ArrayList", rfl, by decide, in_J14, Or.inl (ew_q q486), Or.inr (ew_q q487)⟩
theorem pJ14_63 : ew_P RJ14 63 19 0 .int false := ⟨RJ14, TJ14, 3, "java/util/ArrayList", tyJ14, rfl, by decide, in_J14, Or.inl (ew_q q486), Or.inr (ew_q q487), tyJ14_ok, nmJ14, tyJ14_ok 0 (by decide), rfl, fun h => nomatch h⟩
theorem vJ14_131 : ew_iV RJ14 131 19 kJ14_add_2 3 := ⟨⟨_, rfl, ew_q qs13⟩, Or.inl (ew_q q1239), ew_q q1241, ⟨by decide +kernel, by decide +kernel⟩, by decide +kernel, w_J14_add_2, ew_q q139, by decide⟩
theorem vJ14_129 : ew_iV RJ14 129 19 kJ14_grow 0 := ⟨⟨_, rfl, ew_q qs14⟩, Or.inl (ew_q q1243), ew_q q1245, ⟨by decide +kernel, by decide +kernel⟩, by decide +kernel, w_J14_grow, ew_q q139, by decide⟩
theorem pJ14_48 : ew_P RJ14 48 19 2 .int false := ⟨RJ14, TJ14, 3, "java/util/ArrayList", tyJ14, rfl, by decide, in_J14, Or.inl (ew_q q484), Or.inl rfl, tyJ14_ok, nmJ14, tyJ14_ok 2 (by decide), rfl, fun h => nomatch h⟩
theorem vJ14_69 : ew_iV RJ14 69 19 kJ14_grow_2 1 := ⟨⟨_, rfl, ew_q qs15⟩, Or.inl (ew_q q1247), ew_q q1249, ⟨by decide +kernel, by decide +kernel⟩, by decide +kernel, w_J14_grow_2, ew_q q139, by decide⟩
theorem sJ14_73 : ew_iS RJ14 73 kJ15_newLength 3 := ⟨Or.inl (ew_q q1251), ew_q q575, ⟨by decide +kernel, by decide +kernel⟩, by decide +kernel, w_J15_newLength, ew_q q140, by decide⟩
theorem sJ14_66 : ew_iS RJ14 66 kJ17_copyOf_2 2 := ⟨Or.inl (ew_q q1252), ew_q q1253, ⟨by decide +kernel, by decide +kernel⟩, by decide +kernel, w_J17_copyOf_2, ew_q q142, by decide⟩
theorem sJ14_79 : ew_iS RJ14 79 kJ16_max 2 := ⟨Or.inl (ew_q q1294), ew_q q578, ⟨by decide +kernel, by decide +kernel⟩, by decide +kernel, w_J16_max, ew_q q141, by decide⟩
theorem sJ14_118 : ew_iS RJ14 118 kJ25_checkIndex 2 := ⟨Or.inl (ew_q q1434), ew_q q1435, ⟨by decide +kernel, by decide +kernel⟩, by decide +kernel, w_J25_checkIndex, ew_q q153, by decide⟩
theorem vJ14_123 : ew_iV RJ14 123 19 kJ14_elementData 1 := ⟨⟨_, rfl, ew_q q1440⟩, Or.inl (ew_q q1438), ew_q q1439, ⟨by decide +kernel, by decide +kernel⟩, by decide +kernel, w_J14_elementData, ew_q q139, by decide⟩
theorem tJ14_42_19 : ew_iF RJ14 42 19 kJ14_toArray 0 := ⟨_, ⟨"java/util/Collection", "toArray", "()[Ljava/lang/Object;"⟩, rfl, ew_q q1488, ew_qt q1490 rfl, ew_qt q1489 rfl, ew_q q1507, ew_q q1509, ew_qt q1510 rfl, ew_qt q1508 rfl, ew_qt q1506 rfl, ⟨by decide +kernel, by decide +kernel⟩, by decide +kernel, w_J14_toArray, ew_q q139, by decide⟩
theorem nJ14_20 : ew_N RJ14 20 16 [.null, .int 0, .int 0, .int 0] := ⟨RJ3, TJ3, 4, tyJ3, rfl, in_J3, tyJ3_ok, ew_q q1729, ew_q q204, ew_q q126, rfl, fun j h => (show ∀ j, j < 4 → defaultValue (tyJ3 j) = vp_V [.null, .int 0, .int 0, .int 0] j by decide) j h⟩
theorem iJ14_22 : ew_iI RJ14 22 kJ3_init 0 := ⟨Or.inl (ew_q q1730), ew_q q206, rfl, rfl, rfl, ⟨by decide +kernel, by decide +kernel⟩, by decide +kernel, w_J3_init, ew_q q126, by decide⟩
theorem vJ14_25 : ew_iV RJ14 25 16 kJ3_append_3 1 := ⟨⟨_, rfl, ew_q q738⟩, Or.inl (ew_q q1732), ew_q q737, ⟨by decide +kernel, by decide +kernel⟩, by decide +kernel, w_J3_append_3, ew_q q126, by decide⟩
theorem vJ14_29 : ew_iV RJ14 29 16 kJ3_append_2 1 := ⟨⟨_, rfl, ew_q q703⟩, Or.inl (ew_q q1733), ew_q q702, ⟨by decide +kernel, by decide +kernel⟩, by decide +kernel, w_J3_append_2, ew_q q126, by decide⟩
theorem vJ14_32 : ew_iV RJ14 32 16 kJ3_toString 0 := ⟨⟨_, rfl, ew_q q657⟩, Or.inl (ew_q q1734), ew_q q656, ⟨by decide +kernel, by decide +kernel⟩, by decide +kernel, w_J3_toString, ew_q q126, by decide⟩
theorem sJ15_194 : ew_iS RJ15 194 kJ16_max 2 := ⟨Or.inl (ew_q q577), ew_q q578, ⟨by decide +kernel, by decide +kernel⟩, by decide +kernel, w_J16_max, ew_q q141, by decide⟩
theorem sJ15_201 : ew_iS RJ15 201 kJ15_hugeLength 2 := ⟨Or.inl (ew_q q581), ew_q q582, ⟨by decide +kernel, by decide +kernel⟩, by decide +kernel, w_J15_hugeLength, ew_q q140, by decide⟩
theorem nJ15_89 : ew_N RJ15 89 16 [.null, .int 0, .int 0, .int 0] := ⟨RJ3, TJ3, 4, tyJ3, rfl, in_J3, tyJ3_ok, ew_q q1346, ew_q q204, ew_q q126, rfl, fun j h => (show ∀ j, j < 4 → defaultValue (tyJ3 j) = vp_V [.null, .int 0, .int 0, .int 0] j by decide) j h⟩
theorem iJ15_91 : ew_iI RJ15 91 kJ3_init 0 := ⟨Or.inl (ew_q q1347), ew_q q206, rfl, rfl, rfl, ⟨by decide +kernel, by decide +kernel⟩, by decide +kernel, w_J3_init, ew_q q126, by decide⟩
theorem vJ15_94 : ew_iV RJ15 94 16 kJ3_append_3 1 := ⟨⟨_, rfl, ew_q q738⟩, Or.inl (ew_q q1349), ew_q q737, ⟨by decide +kernel, by decide +kernel⟩, by decide +kernel, w_J3_append_3, ew_q q126, by decide⟩
theorem vJ15_98 : ew_iV RJ15 98 16 kJ3_append_2 1 := ⟨⟨_, rfl, ew_q q703⟩, Or.inl (ew_q q1350), ew_q q702, ⟨by decide +kernel, by decide +kernel⟩, by decide +kernel, w_J3_append_2, ew_q q126, by decide⟩
theorem vJ15_101 : ew_iV RJ15 101 16 kJ3_toString 0 := ⟨⟨_, rfl, ew_q q657⟩, Or.inl (ew_q q1351), ew_q q656, ⟨by decide +kernel, by decide +kernel⟩, by decide +kernel, w_J3_toString, ew_q q126, by decide⟩
theorem sJ15_122 : ew_iS RJ15 122 kJ15_vectorizedMismatch 6 := ⟨Or.inl (ew_q q972), ew_q q973, ⟨by decide +kernel, by decide +kernel⟩, by decide +kernel, w_J15_vectorizedMismatch, ew_q q140, by decide⟩
theorem sJ15_58 : ew_iS RJ15 58 kJ22_numberOfLeadingZeros 1 := ⟨Or.inl (ew_q q1067), ew_q q1037, ⟨by decide +kernel, by decide +kernel⟩, by decide +kernel, w_J22_numberOfLeadingZeros, ew_q q148, by decide⟩
theorem sJ15_11 : ew_iS RJ15 11 kJ22_numberOfTrailingZeros 1 := ⟨Or.inl (ew_q q1068), ew_q q1046, ⟨by decide +kernel, by decide +kernel⟩, by decide +kernel, w_J22_numberOfTrailingZeros, ew_q q148, by decide⟩
theorem sJ15_62 : ew_iS RJ15 62 kJ15_signedHashCode 4 := ⟨Or.inl (ew_q q1311), ew_q q1312, ⟨by decide +kernel, by decide +kernel⟩, by decide +kernel, w_J15_signedHashCode, ew_q q140, by decide⟩
theorem sJ15_66 : ew_iS RJ15 66 kJ15_utf16hashCode 4 := ⟨Or.inl (ew_q q1314), ew_q q1315, ⟨by decide +kernel, by decide +kernel⟩, by decide +kernel, w_J15_utf16hashCode, ew_q q140, by decide⟩
theorem sJ15_71 : ew_iS RJ15 71 kJ15_hashCode 4 := ⟨Or.inl (ew_q q1331), ew_q q1332, ⟨by decide +kernel, by decide +kernel⟩, by decide +kernel, w_J15_hashCode, ew_q q140, by decide⟩
theorem sJ15_75 : ew_iS RJ15 75 kJ15_hashCode_2 4 := ⟨Or.inl (ew_q q1334), ew_q q1335, ⟨by decide +kernel, by decide +kernel⟩, by decide +kernel, w_J15_hashCode_2, ew_q q140, by decide⟩
theorem sJ15_79 : ew_iS RJ15 79 kJ15_hashCode_3 4 := ⟨Or.inl (ew_q q1338), ew_q q1339, ⟨by decide +kernel, by decide +kernel⟩, by decide +kernel, w_J15_hashCode_3, ew_q q140, by decide⟩
theorem sJ15_84 : ew_iS RJ15 84 kJ15_hashCode_4 4 := ⟨Or.inl (ew_q q1342), ew_q q1343, ⟨by decide +kernel, by decide +kernel⟩, by decide +kernel, w_J15_hashCode_4, ew_q q140, by decide⟩
theorem sJ17_304 : ew_iS RJ17 304 kJ16_min 2 := ⟨Or.inl (ew_q q595), ew_q q596, ⟨by decide +kernel, by decide +kernel⟩, by decide +kernel, w_J16_min, ew_q q141, by decide⟩
theorem sJ17_339 : ew_iS RJ17 339 kJ17_copyOfRangeByte 3 := ⟨Or.inl (ew_q q684), ew_q q685, ⟨by decide +kernel, by decide +kernel⟩, by decide +kernel, w_J17_copyOfRangeByte, ew_q q142, by decide⟩
theorem sJ17_343 : ew_iS RJ17 343 kJ17_checkLength 2 := ⟨Or.inl (ew_q q687), ew_q q688, ⟨by decide +kernel, by decide +kernel⟩, by decide +kernel, w_J17_checkLength, ew_q q142, by decide⟩
theorem nJ17_45 : ew_N RJ17 45 16 [.null, .int 0, .int 0, .int 0] := ⟨RJ3, TJ3, 4, tyJ3, rfl, in_J3, tyJ3_ok, ew_q q699, ew_q q204, ew_q q126, rfl, fun j h => (show ∀ j, j < 4 → defaultValue (tyJ3 j) = vp_V [.null, .int 0, .int 0, .int 0] j by decide) j h⟩
theorem iJ17_47 : ew_iI RJ17 47 kJ3_init 0 := ⟨Or.inl (ew_q q700), ew_q q206, rfl, rfl, rfl, ⟨by decide +kernel, by decide +kernel⟩, by decide +kernel, w_J3_init, ew_q q126, by decide⟩
theorem vJ17_54 : ew_iV RJ17 54 16 kJ3_append_2 1 := ⟨⟨_, rfl, ew_q q703⟩, Or.inl (ew_q q701), ew_q q702, ⟨by decide +kernel, by decide +kernel⟩, by decide +kernel, w_J3_append_2, ew_q q126, by decide⟩
theorem vJ17_50 : ew_iV RJ17 50 16 kJ3_append_3 1 := ⟨⟨_, rfl, ew_q q738⟩, Or.inl (ew_q q736), ew_q q737, ⟨by decide +kernel, by decide +kernel⟩, by decide +kernel, w_J3_append_3, ew_q q126, by decide⟩
theorem vJ17_61 : ew_iV RJ17 61 16 kJ3_toString 0 := ⟨⟨_, rfl, ew_q q657⟩, Or.inl (ew_q q774), ew_q q656, ⟨by decide +kernel, by decide +kernel⟩, by decide +kernel, w_J3_toString, ew_q q126, by decide⟩
theorem sJ17_300 : ew_iS RJ17 300 kJ17_copyOf_3 3 := ⟨Or.inl (ew_q q1289), ew_q q1290, ⟨by decide +kernel, by decide +kernel⟩, by decide +kernel, w_J17_copyOf_3, ew_q q142, by decide⟩
theorem sJ17_13 : ew_iS RJ17 13 kJ17_rangeCheck 3 := ⟨Or.inl (ew_q q2344), ew_q q2345, ⟨by decide +kernel, by decide +kernel⟩, by decide +kernel, w_J17_rangeCheck, ew_q q142, by decide⟩
theorem sJ18_9 : ew_iS RJ18 9 kJ4_checkIndex 2 := ⟨Or.inl (ew_q q875), ew_q q649, ⟨by decide +kernel, by decide +kernel⟩, by decide +kernel, w_J4_checkIndex, ew_q q127, by decide⟩
theorem sJ18_34 : ew_iS RJ18 34 kJ18_compareTo_2 4 := ⟨Or.inl (ew_q q961), ew_q q962, ⟨by decide +kernel, by decide +kernel⟩, by decide +kernel, w_J18_compareTo_2, ew_q q144, by decide⟩
theorem sJ18_38 : ew_iS RJ18 38 kJ16_min 2 := ⟨Or.inl (ew_q q964), ew_q q596, ⟨by decide +kernel, by decide +kernel⟩, by decide +kernel, w_J16_min, ew_q q141, by decide⟩
theorem sJ18_44 : ew_iS RJ18 44 kJ15_mismatch 3 := ⟨Or.inl (ew_q q965), ew_q q966, ⟨by decide +kernel, by decide +kernel⟩, by decide +kernel, w_J15_mismatch, ew_q q140, by decide⟩
theorem sJ18_50 : ew_iS RJ18 50 kJ18_getChar 2 := ⟨Or.inl (ew_q q1069), ew_q q1070, ⟨by decide +kernel, by decide +kernel⟩, by decide +kernel, w_J18_getChar, ew_q q144, by decide⟩
theorem sJ18_54 : ew_iS RJ18 54 kJ18_length 1 := ⟨Or.inl (ew_q q1082), ew_q q1083, ⟨by decide +kernel, by decide +kernel⟩, by decide +kernel, w_J18_length, ew_q q144, by decide⟩
theorem sJ18_59 : ew_iS RJ18 59 kJ18_compareToUTF16Values 4 := ⟨Or.inl (ew_q q1086), ew_q q1087, ⟨by decide +kernel, by decide +kernel⟩, by decide +kernel, w_J18_compareToUTF16Values, ew_q q144, by decide⟩
theorem sJ18_62 : ew_iS RJ18 62 kJ4_checkOffset 2 := ⟨Or.inl (ew_q q1121), ew_q q1116, ⟨by decide +kernel, by decide +kernel⟩, by decide +kernel, w_J4_checkOffset, ew_q q127, by decide⟩
theorem sJ18_84 : ew_iS RJ18 84 kJ15_vectorizedHashCode 5 := ⟨Or.inl (ew_q q1307), ew_q q1308, ⟨by decide +kernel, by decide +kernel⟩, by decide +kernel, w_J15_vectorizedHashCode, ew_q q140, by decide⟩
theorem sJ18_236 : ew_iS RJ18 236 kJ17_fill 4 := ⟨Or.inl (ew_q q2341), ew_q q2342, ⟨by decide +kernel, by decide +kernel⟩, by decide +kernel, w_J17_fill, ew_q q142, by decide⟩
theorem iJ2_3 : ew_iI RJ2 3 kJ31_init 0 := ⟨Or.inl (ew_q q211), ew_q q177, rfl, rfl, rfl, ⟨by decide +kernel, by decide +kernel⟩, by decide +kernel, w_J31_init, ew_q q3350, by decide⟩
theorem fJ2_15 : ew_F RJ2 15 16 0 := ⟨RJ3, TJ3, 4, "java/lang/AbstractStringBuilder", rfl, by decide, in_J3, Or.inl (ew_q q221), Or.inl rfl⟩
theorem pJ2_15 : ew_P RJ2 15 16 0 (.array .byte) false := ⟨RJ3, TJ3, 4, "java/lang/AbstractStringBuilder", tyJ3, rfl, by decide, in_J3, Or.inl (ew_q q221), Or.inl rfl, tyJ3_ok, nmJ3, tyJ3_ok 0 (by decide), rfl, fun h => nomatch h⟩
theorem fJ2_22 : ew_F RJ2 22 16 1 := ⟨RJ3, TJ3, 4, "java/lang/AbstractStringBuilder", rfl, by decide, in_J3, Or.inl (ew_q q222), Or.inl rfl⟩
theorem pJ2_22 : ew_P RJ2 22 16 1 .byte false := ⟨RJ3, TJ3, 4, "java/lang/AbstractStringBuilder", tyJ3, rfl, by decide, in_J3, Or.inl (ew_q q222), Or.inl rfl, tyJ3_ok, nmJ3, tyJ3_ok 1 (by decide), rfl, fun h => nomatch h⟩
theorem fJ2_79 : ew_F RJ2 79 16 3 := ⟨RJ3, TJ3, 4, "java/lang/AbstractStringBuilder", rfl, by decide, in_J3, Or.inl (ew_q q225), Or.inl rfl⟩
theorem vJ2_83 : ew_iU RJ2 83 16 kJ2_isLatin1 0 := ⟨_, yJ2_isLatin1, "java/lang/AbstractStringBuilder", rfl, ew_q q604, ew_q q601, ew_q q603, ew_q q602, ⟨kJ2_isLatin1, rfl, w_J2_isLatin1⟩, ⟨by decide +kernel, by decide +kernel⟩, ew_q q602, by decide +kernel, w_J2_isLatin1, ew_q q125, by decide⟩
theorem sJ2_191 : ew_iS RJ2 191 kJ18_canEncode 1 := ⟨Or.inl (ew_q q606), ew_q q607, ⟨by decide +kernel, by decide +kernel⟩, by decide +kernel, w_J18_canEncode, ew_q q144, by decide⟩
theorem pJ2_79 : ew_P RJ2 79 16 3 .int false := ⟨RJ3, TJ3, 4, "java/lang/AbstractStringBuilder", tyJ3, rfl, by decide, in_J3, Or.inl (ew_q q225), Or.inl rfl, tyJ3_ok, nmJ3, tyJ3_ok 3 (by decide), rfl, fun h => nomatch h⟩
theorem sJ2_108 : ew_iS RJ2 108 kJ17_copyOf 2 := ⟨Or.inl (ew_q q585), ew_q q586, ⟨by decide +kernel, by decide +kernel⟩, by decide +kernel, w_J17_copyOf, ew_q q142, by decide⟩
theorem sJ2_114 : ew_iS RJ2 114 kJ15_newLength 3 := ⟨Or.inl (ew_q q574), ew_q q575, ⟨by decide +kernel, by decide +kernel⟩, by decide +kernel, w_J15_newLength, ew_q q140, by decide⟩
theorem sJ2_125 : ew_iS RJ2 125 kJ18_inflate 5 := ⟨Or.inl (ew_q q613), ew_q q614, ⟨by decide +kernel, by decide +kernel⟩, by decide +kernel, w_J18_inflate, ew_q q144, by decide⟩
theorem sJ2_245 : ew_iS RJ2 245 kJ22_stringSize 1 := ⟨Or.inl (ew_q q708), ew_q q709, ⟨by decide +kernel, by decide +kernel⟩, by decide +kernel, w_J22_stringSize, ew_q q148, by decide⟩
theorem sJ2_248 : ew_iS RJ2 248 kJ22_getChars 3 := ⟨Or.inl (ew_q q711), ew_q q712, ⟨by decide +kernel, by decide +kernel⟩, by decide +kernel, w_J22_getChars, ew_q q148, by decide⟩
theorem vJ2_32 : ew_iV RJ2 32 17 kJ4_length 0 := ⟨⟨_, rfl, ew_q q752⟩, Or.inl (ew_q q750), ew_q q751, ⟨by decide +kernel, by decide +kernel⟩, by decide +kernel, w_J4_length, ew_q q127, by decide⟩
theorem vJ2_399 : ew_iV RJ2 399 17 kJ4_getBytes 3 := ⟨⟨_, rfl, ew_q q770⟩, Or.inl (ew_q q768), ew_q q769, ⟨by decide +kernel, by decide +kernel⟩, by decide +kernel, w_J4_getBytes, ew_q q127, by decide⟩
theorem vJ2_40 : ew_iV RJ2 40 17 kJ4_coder 0 := ⟨⟨_, rfl, ew_q q756⟩, Or.inl (ew_q q767), ew_q q755, ⟨by decide +kernel, by decide +kernel⟩, by decide +kernel, w_J4_coder, ew_q q127, by decide⟩
theorem sJ2_87 : ew_iS RJ2 87 kJ18_compareTo_2 4 := ⟨Or.inl (ew_q q1108), ew_q q962, ⟨by decide +kernel, by decide +kernel⟩, by decide +kernel, w_J18_compareTo_2, ew_q q144, by decide⟩
theorem sJ2_94 : ew_iS RJ2 94 kJ18_compareToUTF16_2 4 := ⟨Or.inl (ew_q q1118), ew_q q1119, ⟨by decide +kernel, by decide +kernel⟩, by decide +kernel, w_J18_compareToUTF16_2, ew_q q144, by decide⟩
theorem sJ2_133 : ew_iS RJ2 133 kJ18_fillNull 3 := ⟨Or.inl (ew_q q2338), ew_q q2339, ⟨by decide +kernel, by decide +kernel⟩, by decide +kernel, w_J18_fillNull, ew_q q144, by decide⟩
theorem fJ2_73 : ew_F RJ2 73 16 2 := ⟨RJ3, TJ3, 4, "java/lang/AbstractStringBuilder", rfl, by decide, in_J3, Or.inl (ew_q q223), Or.inl rfl⟩
theorem pJ2_73 : ew_P RJ2 73 16 2 .boolean false := ⟨RJ3, TJ3, 4, "java/lang/AbstractStringBuilder", tyJ3, rfl, by decide, in_J3, Or.inl (ew_q q223), Or.inl rfl, tyJ3_ok, nmJ3, tyJ3_ok 2 (by decide), rfl, fun h => nomatch h⟩
theorem sJ2_138 : ew_iS RJ2 138 kJ16_min 2 := ⟨Or.inl (ew_q q2408), ew_q q596, ⟨by decide +kernel, by decide +kernel⟩, by decide +kernel, w_J16_min, ew_q q141, by decide⟩
theorem sJ2_144 : ew_iS RJ2 144 kJ4_checkIndex 2 := ⟨Or.inl (ew_q q2409), ew_q q649, ⟨by decide +kernel, by decide +kernel⟩, by decide +kernel, w_J4_checkIndex, ew_q q127, by decide⟩
theorem iJ21_1 : ew_iI RJ21 1 kJ31_init 0 := ⟨Or.inl (ew_q q1148), ew_q q177, rfl, rfl, rfl, ⟨by decide +kernel, by decide +kernel⟩, by decide +kernel, w_J31_init, ew_q q3350, by decide⟩
theorem vJ22_284 : ew_iV RJ22 284 20 kJ22_compareTo_2 1 := ⟨⟨_, rfl, ew_q q945⟩, Or.inl (ew_q q943), ew_q q944, ⟨by decide +kernel, by decide +kernel⟩, by decide +kernel, w_J22_compareTo_2, ew_q q148, by decide⟩
theorem fJ22_205 : ew_F RJ22 205 20 0 := ⟨RJ22, TJ22, 1, "java/lang/Integer", rfl, by decide, in_J22, Or.inl (ew_q q1149), Or.inl rfl⟩
theorem sJ22_259 : ew_iS RJ22 259 kJ22_compare 2 := ⟨Or.inl (ew_q q947), ew_q q907, ⟨by decide +kernel, by decide +kernel⟩, by decide +kernel, w_J22_compare, ew_q q148, by decide⟩
theorem nJ22_1 : ew_N RJ22 1 20 [.int 0] := ⟨RJ22, TJ22, 1, tyJ22, rfl, in_J22, tyJ22_ok, ew_q q942, ew_q q1141, ew_q q148, rfl, fun j h => (show ∀ j, j < 1 → defaultValue (tyJ22 j) = vp_V [.int 0] j by decide) j h⟩
theorem iJ22_199 : ew_iI RJ22 199 kJ22_init 1 := ⟨Or.inl (ew_q q1142), ew_q q1143, rfl, rfl, rfl, ⟨by decide +kernel, by decide +kernel⟩, by decide +kernel, w_J22_init, ew_q q148, by decide⟩
theorem iJ22_202 : ew_iI RJ22 202 kJ21_init 0 := ⟨Or.inl (ew_q q1145), ew_q q1146, rfl, rfl, rfl, ⟨by decide +kernel, by decide +kernel⟩, by decide +kernel, w_J21_init, ew_q q147, by decide⟩
theorem pJ22_205 : ew_P RJ22 205 20 0 .int true := ⟨RJ22, TJ22, 1, "java/lang/Integer", tyJ22, rfl, by decide, in_J22, Or.inl (ew_q q1149), Or.inl rfl, tyJ22_ok, nmJ22, tyJ22_ok 0 (by decide), rfl, fun _ => rfl⟩
theorem sJ23_698 : ew_iS RJ23 698 kJ23_makeLong 2 := ⟨Or.inl (ew_q q994), ew_q q995, ⟨by decide +kernel, by decide +kernel⟩, by decide +kernel, w_J23_makeLong, ew_q q150, by decide⟩
theorem sJ23_704 : ew_iS RJ23 704 kJ23_makeLong_2 4 := ⟨Or.inl (ew_q q1012), ew_q q1013, ⟨by decide +kernel, by decide +kernel⟩, by decide +kernel, w_J23_makeLong_2, ew_q q150, by decide⟩
theorem sJ23_709 : ew_iS RJ23 709 kJ23_makeLong_3 8 := ⟨Or.inl (ew_q q1024), ew_q q1025, ⟨by decide +kernel, by decide +kernel⟩, by decide +kernel, w_J23_makeLong_3, ew_q q150, by decide⟩
theorem sJ23_791 : ew_iS RJ23 791 kJ23_toUnsignedLong 1 := ⟨Or.inl (ew_q q997), ew_q q998, ⟨by decide +kernel, by decide +kernel⟩, by decide +kernel, w_J23_toUnsignedLong, ew_q q150, by decide⟩
theorem sJ23_784 : ew_iS RJ23 784 kJ23_pickPos 2 := ⟨Or.inl (ew_q q1001), ew_q q1002, ⟨by decide +kernel, by decide +kernel⟩, by decide +kernel, w_J23_pickPos, ew_q q150, by decide⟩
theorem sJ23_788 : ew_iS RJ23 788 kJ23_toUnsignedLong_2 1 := ⟨Or.inl (ew_q q1015), ew_q q1016, ⟨by decide +kernel, by decide +kernel⟩, by decide +kernel, w_J23_toUnsignedLong_2, ew_q q150, by decide⟩
theorem sJ23_781 : ew_iS RJ23 781 kJ23_toUnsignedLong_3 1 := ⟨Or.inl (ew_q q1027), ew_q q1028, ⟨by decide +kernel, by decide +kernel⟩, by decide +kernel, w_J23_toUnsignedLong_3, ew_q q150, by decide⟩
theorem sJ23_719 : ew_iS RJ23 719 kJ23_makeInt 2 := ⟨Or.inl (ew_q q1054), ew_q q1055, ⟨by decide +kernel, by decide +kernel⟩, by decide +kernel, w_J23_makeInt, ew_q q150, by decide⟩
theorem sJ23_723 : ew_iS RJ23 723 kJ23_makeInt_2 4 := ⟨Or.inl (ew_q q1061), ew_q q1062, ⟨by decide +kernel, by decide +kernel⟩, by decide +kernel, w_J23_makeInt_2, ew_q q150, by decide⟩
theorem sJ23_792 : ew_iS RJ23 792 kJ23_toUnsignedInt 1 := ⟨Or.inl (ew_q q1057), ew_q q1058, ⟨by decide +kernel, by decide +kernel⟩, by decide +kernel, w_J23_toUnsignedInt, ew_q q150, by decide⟩
theorem sJ23_796 : ew_iS RJ23 796 kJ23_toUnsignedInt_2 1 := ⟨Or.inl (ew_q q1064), ew_q q1065, ⟨by decide +kernel, by decide +kernel⟩, by decide +kernel, w_J23_toUnsignedInt_2, ew_q q150, by decide⟩
theorem sJ25_105 : ew_iS RJ25 105 kJ19_checkIndex 3 := ⟨Or.inl (ew_q q1437), ew_q q652, ⟨by decide +kernel, by decide +kernel⟩, by decide +kernel, w_J19_checkIndex, ew_q q145, by decide⟩
theorem iJ26_3 : ew_iI RJ26 3 kJ31_init 0 := ⟨Or.inl (ew_q q1174), ew_q q177, rfl, rfl, rfl, ⟨by decide +kernel, by decide +kernel⟩, by decide +kernel, w_J31_init, ew_q q3350, by decide⟩
theorem fJ26_9 : ew_F RJ26 9 21 5 := ⟨RJ26, TJ26, 6, "java/util/TreeMap$Entry", rfl, by decide, in_J26, Or.inl (ew_q q1183), Or.inl rfl⟩
theorem pJ26_9 : ew_P RJ26 9 21 5 .boolean false := ⟨RJ26, TJ26, 6, "java/util/TreeMap$Entry", tyJ26, rfl, by decide, in_J26, Or.inl (ew_q q1183), Or.inl rfl, tyJ26_ok, nmJ26, tyJ26_ok 5 (by decide), rfl, fun h => nomatch h⟩
theorem fJ26_15 : ew_F RJ26 15 21 0 := ⟨RJ26, TJ26, 6, "java/util/TreeMap$Entry", rfl, by decide, in_J26, Or.inl (ew_q q1175), Or.inl rfl⟩
theorem pJ26_15 : ew_P RJ26 15 21 0 (.object "java/lang/Object") false := ⟨RJ26, TJ26, 6, "java/util/TreeMap$Entry", tyJ26, rfl, by decide, in_J26, Or.inl (ew_q q1175), Or.inl rfl, tyJ26_ok, nmJ26, tyJ26_ok 0 (by decide), rfl, fun h => nomatch h⟩
theorem fJ26_19 : ew_F RJ26 19 21 1 := ⟨RJ26, TJ26, 6, "java/util/TreeMap$Entry", rfl, by decide, in_J26, Or.inl (ew_q q1177), Or.inl rfl⟩
theorem pJ26_19 : ew_P RJ26 19 21 1 (.object "java/lang/Object") false := ⟨RJ26, TJ26, 6, "java/util/TreeMap$Entry", tyJ26, rfl, by decide, in_J26, Or.inl (ew_q q1177), Or.inl rfl, tyJ26_ok, nmJ26, tyJ26_ok 1 (by decide), rfl, fun h => nomatch h⟩
theorem fJ26_22 : ew_F RJ26 22 21 4 := ⟨RJ26, TJ26, 6, "java/util/TreeMap$Entry", rfl, by decide, in_J26, Or.inl (ew_q q1181), Or.inl rfl⟩
theorem pJ26_22 : ew_P RJ26 22 21 4 (.object "java/util/TreeMap$Entry") false := ⟨RJ26, TJ26, 6, "java/util/TreeMap$Entry", tyJ26, rfl, by decide, in_J26, Or.inl (ew_q q1181), Or.inl rfl, tyJ26_ok, nmJ26, tyJ26_ok 4 (by decide), rfl, fun h => nomatch h⟩
theorem iJ28_1 : ew_iI RJ28 1 kJ0_init 0 := ⟨Or.inl (ew_q q2131), ew_q q185, rfl, rfl, rfl, ⟨by decide +kernel, by decide +kernel⟩, by decide +kernel, w_J0_init, ew_q q123, by decide⟩
theorem fJ29_17 : ew_F RJ29 17 22 0 := ⟨RJ29, TJ29, 4, "java/util/PriorityQueue", rfl, by decide, in_J29, Or.inl (ew_q q2135), Or.inl rfl⟩
theorem fJ29_58 : ew_F RJ29 58 22 1 := ⟨RJ29, TJ29, 4, "java/util/PriorityQueue", rfl, by decide, in_J29, Or.inl (ew_q q2136), Or.inl rfl⟩
theorem sJ29_86 : ew_iS RJ29 86 kJ17_copyOf_2 2 := ⟨Or.inl (ew_q q1518), ew_q q1253, ⟨by decide +kernel, by decide +kernel⟩, by decide +kernel, w_J17_copyOf_2, ew_q q142, by decide⟩
theorem iJ29_3 : ew_iI RJ29 3 kJ29_init_2 2 := ⟨Or.inl (ew_q q2125), ew_q q2126, rfl, rfl, rfl, ⟨by decide +kernel, by decide +kernel⟩, by decide +kernel, w_J29_init_2, ew_q q167, by decide⟩
theorem iJ29_7 : ew_iI RJ29 7 kJ28_init 0 := ⟨Or.inl (ew_q q2128), ew_q q2129, rfl, rfl, rfl, ⟨by decide +kernel, by decide +kernel⟩, by decide +kernel, w_J28_init, ew_q q166, by decide⟩
theorem pJ29_17 : ew_P RJ29 17 22 0 (.array (.object "java/lang/Object")) false := ⟨RJ29, TJ29, 4, "java/util/PriorityQueue", tyJ29, rfl, by decide, in_J29, Or.inl (ew_q q2135), Or.inl rfl, tyJ29_ok, nmJ29, tyJ29_ok 0 (by decide), rfl, fun h => nomatch h⟩
theorem fJ29_21 : ew_F RJ29 21 22 2 := ⟨RJ29, TJ29, 4, "java/util/PriorityQueue", rfl, by decide, in_J29, Or.inl (ew_q q2137), Or.inl rfl⟩
theorem pJ29_21 : ew_P RJ29 21 22 2 (.object "java/util/Comparator") true := ⟨RJ29, TJ29, 4, "java/util/PriorityQueue", tyJ29, rfl, by decide, in_J29, Or.inl (ew_q q2137), Or.inl rfl, tyJ29_ok, nmJ29, tyJ29_ok 2 (by decide), rfl, fun _ => rfl⟩
theorem vJ29_89 : ew_iV RJ29 89 22 kJ29_offer 1 := ⟨⟨_, rfl, ew_q q2180⟩, Or.inl (ew_q q2178), ew_q q2179, ⟨by decide +kernel, by decide +kernel⟩, by decide +kernel, w_J29_offer, ew_q q167, by decide⟩
theorem fJ29_93 : ew_F RJ29 93 22 3 := ⟨RJ29, TJ29, 4, "java/util/PriorityQueue", rfl, by decide, in_J29, Or.inl (ew_q q2138), Or.inl rfl⟩
theorem pJ29_93 : ew_P RJ29 93 22 3 .int false := ⟨RJ29, TJ29, 4, "java/util/PriorityQueue", tyJ29, rfl, by decide, in_J29, Or.inl (ew_q q2138), Or.inl rfl, tyJ29_ok, nmJ29, tyJ29_ok 3 (by decide), rfl, fun h => nomatch h⟩
theorem vJ29_96 : ew_iV RJ29 96 22 kJ29_grow 1 := ⟨⟨_, rfl, ew_q qs33⟩, Or.inl (ew_q q2182), ew_q q2184, ⟨by decide +kernel, by decide +kernel⟩, by decide +kernel, w_J29_grow, ew_q q167, by decide⟩
theorem vJ29_100 : ew_iV RJ29 100 22 kJ29_siftUp 2 := ⟨⟨_, rfl, ew_q qs34⟩, Or.inl (ew_q q2187), ew_q q2189, ⟨by decide +kernel, by decide +kernel⟩, by decide +kernel, w_J29_siftUp, ew_q q167, by decide⟩
theorem pJ29_58 : ew_P RJ29 58 22 1 .int false := ⟨RJ29, TJ29, 4, "java/util/PriorityQueue", tyJ29, rfl, by decide, in_J29, Or.inl (ew_q q2136), Or.inl rfl, tyJ29_ok, nmJ29, tyJ29_ok 1 (by decide), rfl, fun h => nomatch h⟩
theorem sJ29_80 : ew_iS RJ29 80 kJ15_newLength 3 := ⟨Or.inl (ew_q q2186), ew_q q575, ⟨by decide +kernel, by decide +kernel⟩, by decide +kernel, w_J15_newLength, ew_q q140, by decide⟩
theorem sJ29_136 : ew_iS RJ29 136 kJ29_siftUpUsingComparator 4 := ⟨Or.inl (ew_q q2191), ew_q q2192, ⟨by decide +kernel, by decide +kernel⟩, by decide +kernel, w_J29_siftUpUsingComparator, ew_q q167, by decide⟩
theorem sJ29_140 : ew_iS RJ29 140 kJ29_siftUpComparable 3 := ⟨Or.inl (ew_q q2196), ew_q q2197, ⟨by decide +kernel, by decide +kernel⟩, by decide +kernel, w_J29_siftUpComparable, ew_q q167, by decide⟩
theorem tJ29_149_12 : ew_iF RJ29 149 12 kX13_compare 2 := ⟨_, ⟨"java/util/Comparator", "compare", "(Ljava/lang/Object;Ljava/lang/Object;)I"⟩, rfl, ew_q q2195, ew_qt q894 rfl, ew_qt q893 rfl, ew_q q910, ew_q q912, ew_qt q913 rfl, ew_qt q911 rfl, ew_qt q909 rfl, ⟨by decide +kernel, by decide +kernel⟩, by decide +kernel, w_X13_compare, ew_q q165, by decide⟩
theorem tJ29_149_13 : ew_iF RJ29 149 13 kX14_compare 2 := ⟨_, ⟨"java/util/Comparator", "compare", "(Ljava/lang/Object;Ljava/lang/Object;)I"⟩, rfl, ew_q q2195, ew_qt q894 rfl, ew_qt q893 rfl, ew_q q896, ew_q q898, ew_qt q899 rfl, ew_qt q897 rfl, ew_qt q895 rfl, ⟨by decide +kernel, by decide +kernel⟩, by decide +kernel, w_X14_compare, ew_q q168, by decide⟩
theorem tJ29_146_17 : ew_iF RJ29 146 17 kJ4_compareTo 1 := ⟨_, ⟨"java/lang/Comparable", "compareTo", "(Ljava/lang/Object;)I"⟩, rfl, ew_q q2201, ew_qt q923 rfl, ew_qt q922 rfl, ew_q q949, ew_q q951, ew_qt q952 rfl, ew_qt q950 rfl, ew_qt q948 rfl, ⟨by decide +kernel, by decide +kernel⟩, by decide +kernel, w_J4_compareTo, ew_q q127, by decide⟩
theorem tJ29_146_10 : ew_iF RJ29 146 10 kX11_compareTo 1 := ⟨_, ⟨"java/lang/Comparable", "compareTo", "(Ljava/lang/Object;)I"⟩, rfl, ew_q q2201, ew_qt q923 rfl, ew_qt q922 rfl, ew_q q925, ew_q q927, ew_qt q928 rfl, ew_qt q926 rfl, ew_qt q924 rfl, ⟨by decide +kernel, by decide +kernel⟩, by decide +kernel, w_X11_compareTo, ew_q q163, by decide⟩
theorem sJ29_125 : ew_iS RJ29 125 kJ29_siftDownComparable 4 := ⟨Or.inl (ew_q q2206), ew_q q2207, ⟨by decide +kernel, by decide +kernel⟩, by decide +kernel, w_J29_siftDownComparable, ew_q q167, by decide⟩
theorem sJ29_129 : ew_iS RJ29 129 kJ29_siftDownUsingComparator 5 := ⟨Or.inl (ew_q q2209), ew_q q2210, ⟨by decide +kernel, by decide +kernel⟩, by decide +kernel, w_J29_siftDownUsingComparator, ew_q q167, by decide⟩
theorem iJ3_1 : ew_iI RJ3 1 kJ2_init 1 := ⟨Or.inl (ew_q q208), ew_q q209, rfl, rfl, rfl, ⟨by decide +kernel, by decide +kernel⟩, by decide +kernel, w_J2_init, ew_q q125, by decide⟩
theorem uJ3_50 : ew_iP RJ3 50 kJ2_append 1 := ⟨ew_q q563, ew_q q3337, ew_q q234, ew_q q564, by decide +kernel, by decide +kernel, w_J2_append, ew_q q125, by decide⟩
theorem nJ3_18 : ew_N RJ3 18 17 [.null, .int 0, .int 0, .int 0] := ⟨RJ4, TJ4, 4, tyJ4, rfl, in_J4, tyJ4_ok, ew_q q659, ew_q q395, ew_q q127, rfl, fun j h => (show ∀ j, j < 4 → defaultValue (tyJ4 j) = vp_V [.null, .int 0, .int 0, .int 0] j by decide) j h⟩
theorem iJ3_137 : ew_iI RJ3 137 kJ4_init 1 := ⟨Or.inl (ew_q q660), ew_q q661, rfl, rfl, rfl, ⟨by decide +kernel, by decide +kernel⟩, by decide +kernel, w_J4_init, ew_q q127, by decide⟩
theorem uJ3_343 : ew_iP RJ3 343 kJ2_length 0 := ⟨ew_q q678, ew_q q674, ew_q q234, ew_q q673, by decide +kernel, by decide +kernel, w_J2_length, ew_q q125, by decide⟩
theorem uJ3_53 : ew_iP RJ3 53 kJ2_append_2 1 := ⟨ew_q q705, ew_q q3341, ew_q q234, ew_q q706, by decide +kernel, by decide +kernel, w_J2_append_2, ew_q q125, by decide⟩
theorem uJ3_29 : ew_iP RJ3 29 kJ2_append_3 1 := ⟨ew_q q740, ew_q q3342, ew_q q234, ew_q q741, by decide +kernel, by decide +kernel, w_J2_append_3, ew_q q125, by decide⟩
theorem vJ3_346 : ew_iV RJ3 346 16 kJ3_compareTo_2 1 := ⟨⟨_, rfl, ew_q q1103⟩, Or.inl (ew_q q1101), ew_q q1102, ⟨by decide +kernel, by decide +kernel⟩, by decide +kernel, w_J3_compareTo_2, ew_q q126, by decide⟩
theorem uJ3_13 : ew_iP RJ3 13 kJ2_compareTo 1 := ⟨ew_q q1105, ew_q q3346, ew_q q234, ew_q q1106, by decide +kernel, by decide +kernel, w_J2_compareTo, ew_q q125, by decide⟩
theorem uJ3_333 : ew_iP RJ3 333 kJ2_setLength 1 := ⟨ew_q q2316, ew_q q3347, ew_q q234, ew_q q2317, by decide +kernel, by decide +kernel, w_J2_setLength, ew_q q125, by decide⟩
theorem uJ3_329 : ew_iP RJ3 329 kJ2_charAt 1 := ⟨ew_q q2405, ew_q q3349, ew_q q234, ew_q q2406, by decide +kernel, by decide +kernel, w_J2_charAt, ew_q q125, by decide⟩
theorem sJ4_1065 : ew_iS RJ4 1065 kJ19_checkFromIndexSize 4 := ⟨Or.inl (ew_q q630), ew_q q631, ⟨by decide +kernel, by decide +kernel⟩, by decide +kernel, w_J19_checkFromIndexSize, ew_q q145, by decide⟩
theorem sJ4_1059 : ew_iS RJ4 1059 kJ19_checkIndex 3 := ⟨Or.inl (ew_q q651), ew_q q652, ⟨by decide +kernel, by decide +kernel⟩, by decide +kernel, w_J19_checkIndex, ew_q q145, by decide⟩
theorem iJ4_489 : ew_iI RJ4 489 kJ4_init_2 2 := ⟨Or.inl (ew_q q663), ew_q q664, rfl, rfl, rfl, ⟨by decide +kernel, by decide +kernel⟩, by decide +kernel, w_J4_init_2, ew_q q127, by decide⟩
theorem iJ4_1 : ew_iI RJ4 1 kJ31_init 0 := ⟨Or.inl (ew_q q666), ew_q q177, rfl, rfl, rfl, ⟨by decide +kernel, by decide +kernel⟩, by decide +kernel, w_J31_init, ew_q q3350, by decide⟩
theorem vJ4_552 : ew_iU RJ4 552 16 kJ2_getValue 0 := ⟨_, yJ2_getValue, "java/lang/AbstractStringBuilder", rfl, ew_q q670, ew_q q667, ew_q q669, ew_q q668, ⟨kJ2_getValue, rfl, w_J2_getValue⟩, ⟨by decide +kernel, by decide +kernel⟩, ew_q q668, by decide +kernel, w_J2_getValue, ew_q q125, by decide⟩
theorem vJ4_549 : ew_iU RJ4 549 16 kJ3_length 0 := ⟨_, yJ2_length, "java/lang/AbstractStringBuilder", rfl, ew_q q675, ew_q q672, ew_q q674, ew_q q673, ⟨kJ2_length, rfl, w_J2_length⟩, ⟨by decide +kernel, by decide +kernel⟩, ew_q q676, by decide +kernel, w_J3_length, ew_q q126, by decide⟩
theorem vJ4_1047 : ew_iU RJ4 1047 16 kJ2_isLatin1 0 := ⟨_, yJ2_isLatin1, "java/lang/AbstractStringBuilder", rfl, ew_q q604, ew_q q680, ew_q q603, ew_q q602, ⟨kJ2_isLatin1, rfl, w_J2_isLatin1⟩, ⟨by decide +kernel, by decide +kernel⟩, ew_q q602, by decide +kernel, w_J2_isLatin1, ew_q q125, by decide⟩
theorem fJ4_15 : ew_F RJ4 15 17 1 := ⟨RJ4, TJ4, 4, "java/lang/String", rfl, by decide, in_J4, Or.inl (ew_q q795), Or.inl rfl⟩
theorem pJ4_15 : ew_P RJ4 15 17 1 .byte true := ⟨RJ4, TJ4, 4, "java/lang/String", tyJ4, rfl, by decide, in_J4, Or.inl (ew_q q795), Or.inl rfl, tyJ4_ok, nmJ4, tyJ4_ok 1 (by decide), rfl, fun _ => rfl⟩
theorem sJ4_54 : ew_iS RJ4 54 kJ17_copyOfRange 3 := ⟨Or.inl (ew_q q681), ew_q q682, ⟨by decide +kernel, by decide +kernel⟩, by decide +kernel, w_J17_copyOfRange, ew_q q142, by decide⟩
theorem fJ4_9 : ew_F RJ4 9 17 0 := ⟨RJ4, TJ4, 4, "java/lang/String", rfl, by decide, in_J4, Or.inl (ew_q q794), Or.inl rfl⟩
theorem pJ4_9 : ew_P RJ4 9 17 0 (.array .byte) true := ⟨RJ4, TJ4, 4, "java/lang/String", tyJ4, rfl, by decide, in_J4, Or.inl (ew_q q794), Or.inl rfl, tyJ4_ok, nmJ4, tyJ4_ok 0 (by decide), rfl, fun _ => rfl⟩
theorem fJ4_1048 : ew_F RJ4 1048 16 2 := ⟨RJ3, TJ3, 4, "java/lang/AbstractStringBuilder", rfl, by decide, in_J3, Or.inl (ew_q q224), Or.inl rfl⟩
theorem sJ4_1062 : ew_iS RJ4 1062 kJ19_checkFromToIndex 4 := ⟨Or.inl (ew_q q727), ew_q q728, ⟨by decide +kernel, by decide +kernel⟩, by decide +kernel, w_J19_checkFromToIndex, ew_q q145, by decide⟩
theorem vJ4_335 : ew_iV RJ4 335 17 kJ4_coder 0 := ⟨⟨_, rfl, ew_q q756⟩, Or.inl (ew_q q754), ew_q q755, ⟨by decide +kernel, by decide +kernel⟩, by decide +kernel, w_J4_coder, ew_q q127, by decide⟩
theorem sJ4_106 : ew_iS RJ4 106 kJ18_inflate 5 := ⟨Or.inl (ew_q q773), ew_q q614, ⟨by decide +kernel, by decide +kernel⟩, by decide +kernel, w_J18_inflate, ew_q q144, by decide⟩
theorem sJ4_541 : ew_iS RJ4 541 kJ18_equals 2 := ⟨Or.inl (ew_q q817), ew_q q818, ⟨by decide +kernel, by decide +kernel⟩, by decide +kernel, w_J18_equals, ew_q q144, by decide⟩
theorem vJ4_492 : ew_iV RJ4 492 17 kJ4_isLatin1 0 := ⟨⟨_, rfl, ew_q q870⟩, Or.inl (ew_q q868), ew_q q869, ⟨by decide +kernel, by decide +kernel⟩, by decide +kernel, w_J4_isLatin1, ew_q q127, by decide⟩
theorem sJ4_495 : ew_iS RJ4 495 kJ18_charAt 2 := ⟨Or.inl (ew_q q872), ew_q q873, ⟨by decide +kernel, by decide +kernel⟩, by decide +kernel, w_J18_charAt, ew_q q144, by decide⟩
theorem vJ4_1084 : ew_iV RJ4 1084 17 kJ4_compareTo_2 1 := ⟨⟨_, rfl, ew_q q956⟩, Or.inl (ew_q q954), ew_q q955, ⟨by decide +kernel, by decide +kernel⟩, by decide +kernel, w_J4_compareTo_2, ew_q q127, by decide⟩
theorem sJ4_586 : ew_iS RJ4 586 kJ18_compareTo 2 := ⟨Or.inl (ew_q q958), ew_q q959, ⟨by decide +kernel, by decide +kernel⟩, by decide +kernel, w_J18_compareTo, ew_q q144, by decide⟩
theorem sJ4_591 : ew_iS RJ4 591 kJ18_compareToUTF16 2 := ⟨Or.inl (ew_q q1079), ew_q q1080, ⟨by decide +kernel, by decide +kernel⟩, by decide +kernel, w_J18_compareToUTF16, ew_q q144, by decide⟩
theorem fJ4_19 : ew_F RJ4 19 17 2 := ⟨RJ4, TJ4, 4, "java/lang/String", rfl, by decide, in_J4, Or.inl (ew_q q796), Or.inl rfl⟩
theorem fJ4_23 : ew_F RJ4 23 17 3 := ⟨RJ4, TJ4, 4, "java/lang/String", rfl, by decide, in_J4, Or.inl (ew_q q797), Or.inl rfl⟩
theorem sJ4_628 : ew_iS RJ4 628 kJ18_hashCode 1 := ⟨Or.inl (ew_q q1304), ew_q q1305, ⟨by decide +kernel, by decide +kernel⟩, by decide +kernel, w_J18_hashCode, ew_q q144, by decide⟩
theorem pJ4_23 : ew_P RJ4 23 17 3 .boolean false := ⟨RJ4, TJ4, 4, "java/lang/String", tyJ4, rfl, by decide, in_J4, Or.inl (ew_q q797), Or.inl rfl, tyJ4_ok, nmJ4, tyJ4_ok 3 (by decide), rfl, fun h => nomatch h⟩
theorem pJ4_19 : ew_P RJ4 19 17 2 .int false := ⟨RJ4, TJ4, 4, "java/lang/String", tyJ4, rfl, by decide, in_J4, Or.inl (ew_q q796), Or.inl rfl, tyJ4_ok, nmJ4, tyJ4_ok 2 (by decide), rfl, fun h => nomatch h⟩
theorem iJ6_1 : ew_iI RJ6 1 kJ31_init 0 := ⟨Or.inl (ew_q q338), ew_q q177, rfl, rfl, rfl, ⟨by decide +kernel, by decide +kernel⟩, by decide +kernel, w_J31_init, ew_q q3350, by decide⟩
theorem fJ6_7 : ew_F RJ6 7 3 0 := ⟨RX4, TX4, 8, "java/lang/Throwable", rfl, by decide, in_X4, Or.inl (ew_q q360), Or.inl rfl⟩
theorem pJ6_7 : ew_P RJ6 7 3 0 (.object "java/lang/Throwable") false := ⟨RX4, TX4, 8, "java/lang/Throwable", tyX4, rfl, by decide, in_X4, Or.inl (ew_q q360), Or.inl rfl, tyX4_ok, nmX4, tyX4_ok 0 (by decide), rfl, fun h => nomatch h⟩
theorem fJ6_17 : ew_F RJ6 17 3 1 := ⟨RX4, TX4, 8, "java/lang/Throwable", rfl, by decide, in_X4, Or.inl (ew_q q361), Or.inl rfl⟩
theorem pJ6_17 : ew_P RJ6 17 3 1 (.array (.object "java/lang/StackTraceElement")) false := ⟨RX4, TX4, 8, "java/lang/Throwable", tyX4, rfl, by decide, in_X4, Or.inl (ew_q q361), Or.inl rfl, tyX4_ok, nmX4, tyX4_ok 1 (by decide), rfl, fun h => nomatch h⟩
theorem fJ6_24 : ew_F RJ6 24 3 2 := ⟨RX4, TX4, 8, "java/lang/Throwable", rfl, by decide, in_X4, Or.inl (ew_q q362), Or.inl rfl⟩
theorem pJ6_24 : ew_P RJ6 24 3 2 (.object "java/util/List") false := ⟨RX4, TX4, 8, "java/lang/Throwable", tyX4, rfl, by decide, in_X4, Or.inl (ew_q q362), Or.inl rfl, tyX4_ok, nmX4, tyX4_ok 2 (by decide), rfl, fun h => nomatch h⟩
theorem fJ6_31 : ew_F RJ6 31 3 3 := ⟨RX4, TX4, 8, "java/lang/Throwable", rfl, by decide, in_X4, Or.inl (ew_q q359), Or.inl rfl⟩
theorem pJ6_31 : ew_P RJ6 31 3 3 (.object "java/lang/String") false := ⟨RX4, TX4, 8, "java/lang/Throwable", tyX4, rfl, by decide, in_X4, Or.inl (ew_q q359), Or.inl rfl, tyX4_ok, nmX4, tyX4_ok 3 (by decide), rfl, fun h => nomatch h⟩
theorem iJ7_7 : ew_iI RJ7 7 kJ6_init 1 := ⟨Or.inl (ew_q q335), ew_q q336, rfl, rfl, rfl, ⟨by decide +kernel, by decide +kernel⟩, by decide +kernel, w_J6_init, ew_q q130, by decide⟩
theorem iJ7_1 : ew_iI RJ7 1 kJ6_init_2 0 := ⟨Or.inl (ew_q q430), ew_q q393, rfl, rfl, rfl, ⟨by decide +kernel, by decide +kernel⟩, by decide +kernel, w_J6_init_2, ew_q q130, by decide⟩
theorem iJ7_16 : ew_iI RJ7 16 kJ6_init_3 4 := ⟨Or.inl (ew_q q839), ew_q q840, rfl, rfl, rfl, ⟨by decide +kernel, by decide +kernel⟩, by decide +kernel, w_J6_init_3, ew_q q130, by decide⟩
theorem vX0_7 : ew_iV RX0 7 0 kX1_load 1 := ⟨⟨_, rfl, ew_q q403⟩, Or.inl (ew_q q401), ew_q q402, ⟨by decide +kernel, by decide +kernel⟩, by decide +kernel, w_X1_load, ew_q q122, by decide⟩
theorem vX0_17 : ew_iV RX0 17 0 kX1_letter 2 := ⟨⟨_, rfl, ew_q q1579⟩, Or.inl (ew_q q1577), ew_q q1578, ⟨by decide +kernel, by decide +kernel⟩, by decide +kernel, w_X1_letter, ew_q q122, by decide⟩
theorem vX0_23 : ew_iV RX0 23 0 kX1_window 2 := ⟨⟨_, rfl, ew_q q1614⟩, Or.inl (ew_q q1612), ew_q q1613, ⟨by decide +kernel, by decide +kernel⟩, by decide +kernel, w_X1_window, ew_q q122, by decide⟩
theorem vX0_26 : ew_iV RX0 26 0 kX1_fixedAt 1 := ⟨⟨_, rfl, ew_q q1635⟩, Or.inl (ew_q q1633), ew_q q1634, ⟨by decide +kernel, by decide +kernel⟩, by decide +kernel, w_X1_fixedAt, ew_q q122, by decide⟩
theorem vX0_29 : ew_iV RX0 29 0 kX1_delay 1 := ⟨⟨_, rfl, ew_q q1642⟩, Or.inl (ew_q q1640), ew_q q1641, ⟨by decide +kernel, by decide +kernel⟩, by decide +kernel, w_X1_delay, ew_q q122, by decide⟩
theorem vX0_32 : ew_iV RX0 32 0 kX1_wish 1 := ⟨⟨_, rfl, ew_q q1649⟩, Or.inl (ew_q q1647), ew_q q1648, ⟨by decide +kernel, by decide +kernel⟩, by decide +kernel, w_X1_wish, ew_q q122, by decide⟩
theorem vX0_35 : ew_iV RX0 35 0 kX1_isSound 0 := ⟨⟨_, rfl, ew_q q1656⟩, Or.inl (ew_q q1654), ew_q q1655, ⟨by decide +kernel, by decide +kernel⟩, by decide +kernel, w_X1_isSound, ew_q q122, by decide⟩
theorem vX0_39 : ew_iV RX0 39 0 kX1_roundLength 0 := ⟨⟨_, rfl, ew_q q1712⟩, Or.inl (ew_q q1710), ew_q q1711, ⟨by decide +kernel, by decide +kernel⟩, by decide +kernel, w_X1_roundLength, ew_q q122, by decide⟩
theorem vX0_43 : ew_iV RX0 43 0 kX1_roundStep 1 := ⟨⟨_, rfl, ew_q q1814⟩, Or.inl (ew_q q1812), ew_q q1813, ⟨by decide +kernel, by decide +kernel⟩, by decide +kernel, w_X1_roundStep, ew_q q122, by decide⟩
theorem vX0_46 : ew_iV RX0 46 0 kX1_roundLack 0 := ⟨⟨_, rfl, ew_q q1822⟩, Or.inl (ew_q q1820), ew_q q1821, ⟨by decide +kernel, by decide +kernel⟩, by decide +kernel, w_X1_roundLack, ew_q q122, by decide⟩
theorem vX0_49 : ew_iV RX0 49 0 kX1_most 2 := ⟨⟨_, rfl, ew_q q1829⟩, Or.inl (ew_q q1827), ew_q q1828, ⟨by decide +kernel, by decide +kernel⟩, by decide +kernel, w_X1_most, ew_q q122, by decide⟩
theorem vX0_52 : ew_iV RX0 52 0 kX1_least 2 := ⟨⟨_, rfl, ew_q q1850⟩, Or.inl (ew_q q1848), ew_q q1849, ⟨by decide +kernel, by decide +kernel⟩, by decide +kernel, w_X1_least, ew_q q122, by decide⟩
theorem vX0_55 : ew_iV RX0 55 0 kX1_earliest 1 := ⟨⟨_, rfl, ew_q q1857⟩, Or.inl (ew_q q1855), ew_q q1856, ⟨by decide +kernel, by decide +kernel⟩, by decide +kernel, w_X1_earliest, ew_q q122, by decide⟩
theorem vX0_58 : ew_iV RX0 58 0 kX1_latest 1 := ⟨⟨_, rfl, ew_q q1868⟩, Or.inl (ew_q q1866), ew_q q1867, ⟨by decide +kernel, by decide +kernel⟩, by decide +kernel, w_X1_latest, ew_q q122, by decide⟩
theorem vX0_61 : ew_iV RX0 61 0 kX1_slack 1 := ⟨⟨_, rfl, ew_q q1882⟩, Or.inl (ew_q q1880), ew_q q1881, ⟨by decide +kernel, by decide +kernel⟩, by decide +kernel, w_X1_slack, ew_q q122, by decide⟩
theorem vX0_64 : ew_iV RX0 64 0 kX1_wayLength 2 := ⟨⟨_, rfl, ew_q q1899⟩, Or.inl (ew_q q1897), ew_q q1898, ⟨by decide +kernel, by decide +kernel⟩, by decide +kernel, w_X1_wayLength, ew_q q122, by decide⟩
theorem vX0_67 : ew_iV RX0 67 0 kX1_wayStep 3 := ⟨⟨_, rfl, ew_q q1910⟩, Or.inl (ew_q q1908), ew_q q1909, ⟨by decide +kernel, by decide +kernel⟩, by decide +kernel, w_X1_wayStep, ew_q q122, by decide⟩
theorem vX0_71 : ew_iV RX0 71 0 kX1_isTight 2 := ⟨⟨_, rfl, ew_q q1917⟩, Or.inl (ew_q q1915), ew_q q1916, ⟨by decide +kernel, by decide +kernel⟩, by decide +kernel, w_X1_isTight, ew_q q122, by decide⟩
theorem vX0_75 : ew_iV RX0 75 0 kX1_isNeeded 1 := ⟨⟨_, rfl, ew_q q1929⟩, Or.inl (ew_q q1927), ew_q q1928, ⟨by decide +kernel, by decide +kernel⟩, by decide +kernel, w_X1_isNeeded, ew_q q122, by decide⟩
theorem vX0_79 : ew_iV RX0 79 0 kX1_loose 0 := ⟨⟨_, rfl, ew_q q1944⟩, Or.inl (ew_q q1942), ew_q q1943, ⟨by decide +kernel, by decide +kernel⟩, by decide +kernel, w_X1_loose, ew_q q122, by decide⟩
theorem vX0_82 : ew_iV RX0 82 0 kX1_critical 0 := ⟨⟨_, rfl, ew_q q1952⟩, Or.inl (ew_q q1950), ew_q q1951, ⟨by decide +kernel, by decide +kernel⟩, by decide +kernel, w_X1_critical, ew_q q122, by decide⟩
theorem vX0_85 : ew_iV RX0 85 0 kX1_mustPrecede 2 := ⟨⟨_, rfl, ew_q q1959⟩, Or.inl (ew_q q1957), ew_q q1958, ⟨by decide +kernel, by decide +kernel⟩, by decide +kernel, w_X1_mustPrecede, ew_q q122, by decide⟩
theorem vX0_89 : ew_iV RX0 89 0 kX1_canMeet 2 := ⟨⟨_, rfl, ew_q q1966⟩, Or.inl (ew_q q1964), ew_q q1965, ⟨by decide +kernel, by decide +kernel⟩, by decide +kernel, w_X1_canMeet, ew_q q122, by decide⟩
theorem vX0_92 : ew_iV RX0 92 0 kX1_part 1 := ⟨⟨_, rfl, ew_q q1973⟩, Or.inl (ew_q q1971), ew_q q1972, ⟨by decide +kernel, by decide +kernel⟩, by decide +kernel, w_X1_part, ew_q q122, by decide⟩
theorem vX0_95 : ew_iV RX0 95 0 kX1_parts 0 := ⟨⟨_, rfl, ew_q q1984⟩, Or.inl (ew_q q1982), ew_q q1983, ⟨by decide +kernel, by decide +kernel⟩, by decide +kernel, w_X1_parts, ew_q q122, by decide⟩
theorem vX0_98 : ew_iV RX0 98 0 kX1_end 0 := ⟨⟨_, rfl, ew_q q1992⟩, Or.inl (ew_q q1990), ew_q q1991, ⟨by decide +kernel, by decide +kernel⟩, by decide +kernel, w_X1_end, ew_q q122, by decide⟩
theorem vX0_101 : ew_iV RX0 101 0 kX1_meanSlack 0 := ⟨⟨_, rfl, ew_q q2000⟩, Or.inl (ew_q q1998), ew_q q1999, ⟨by decide +kernel, by decide +kernel⟩, by decide +kernel, w_X1_meanSlack, ew_q q122, by decide⟩
theorem vX0_105 : ew_iV RX0 105 0 kX1_neededShare 0 := ⟨⟨_, rfl, ew_q q2007⟩, Or.inl (ew_q q2005), ew_q q2006, ⟨by decide +kernel, by decide +kernel⟩, by decide +kernel, w_X1_neededShare, ew_q q122, by decide⟩
theorem vX0_109 : ew_iV RX0 109 0 kX1_widening 2 := ⟨⟨_, rfl, ew_q q2014⟩, Or.inl (ew_q q2012), ew_q q2013, ⟨by decide +kernel, by decide +kernel⟩, by decide +kernel, w_X1_widening, ew_q q122, by decide⟩
theorem vX0_113 : ew_iV RX0 113 0 kX1_bestMend 0 := ⟨⟨_, rfl, ew_q q2025⟩, Or.inl (ew_q q2023), ew_q q2024, ⟨by decide +kernel, by decide +kernel⟩, by decide +kernel, w_X1_bestMend, ew_q q122, by decide⟩
theorem vX0_116 : ew_iV RX0 116 0 kX1_mendCost 0 := ⟨⟨_, rfl, ew_q q2100⟩, Or.inl (ew_q q2098), ew_q q2099, ⟨by decide +kernel, by decide +kernel⟩, by decide +kernel, w_X1_mendCost, ew_q q122, by decide⟩
theorem vX0_119 : ew_iV RX0 119 0 kX1_leastDrop 0 := ⟨⟨_, rfl, ew_q q2107⟩, Or.inl (ew_q q2105), ew_q q2106, ⟨by decide +kernel, by decide +kernel⟩, by decide +kernel, w_X1_leastDrop, ew_q q122, by decide⟩
theorem vX0_122 : ew_iV RX0 122 0 kX1_dropCost 0 := ⟨⟨_, rfl, ew_q q2223⟩, Or.inl (ew_q q2221), ew_q q2222, ⟨by decide +kernel, by decide +kernel⟩, by decide +kernel, w_X1_dropCost, ew_q q122, by decide⟩
theorem vX0_125 : ew_iV RX0 125 0 kX1_runBreaks 1 := ⟨⟨_, rfl, ew_q q2230⟩, Or.inl (ew_q q2228), ew_q q2229, ⟨by decide +kernel, by decide +kernel⟩, by decide +kernel, w_X1_runBreaks, ew_q q122, by decide⟩
theorem vX0_128 : ew_iV RX0 128 0 kX1_runTime 2 := ⟨⟨_, rfl, ew_q q2277⟩, Or.inl (ew_q q2275), ew_q q2276, ⟨by decide +kernel, by decide +kernel⟩, by decide +kernel, w_X1_runTime, ew_q q122, by decide⟩
theorem vX0_131 : ew_iV RX0 131 0 kX1_runEnd 1 := ⟨⟨_, rfl, ew_q q2284⟩, Or.inl (ew_q q2282), ew_q q2283, ⟨by decide +kernel, by decide +kernel⟩, by decide +kernel, w_X1_runEnd, ew_q q122, by decide⟩
theorem vX0_134 : ew_iV RX0 134 0 kX1_spare 2 := ⟨⟨_, rfl, ew_q q2291⟩, Or.inl (ew_q q2289), ew_q q2290, ⟨by decide +kernel, by decide +kernel⟩, by decide +kernel, w_X1_spare, ew_q q122, by decide⟩
theorem vX0_137 : ew_iV RX0 137 0 kX1_weakest 1 := ⟨⟨_, rfl, ew_q q2303⟩, Or.inl (ew_q q2301), ew_q q2302, ⟨by decide +kernel, by decide +kernel⟩, by decide +kernel, w_X1_weakest, ew_q q122, by decide⟩
theorem vX0_140 : ew_iV RX0 140 0 kX1_writeEvent 1 := ⟨⟨_, rfl, ew_q q2310⟩, Or.inl (ew_q q2308), ew_q q2309, ⟨by decide +kernel, by decide +kernel⟩, by decide +kernel, w_X1_writeEvent, ew_q q122, by decide⟩
theorem vX0_143 : ew_iV RX0 143 0 kX1_writeRound 0 := ⟨⟨_, rfl, ew_q q2374⟩, Or.inl (ew_q q2372), ew_q q2373, ⟨by decide +kernel, by decide +kernel⟩, by decide +kernel, w_X1_writeRound, ew_q q122, by decide⟩
theorem vX0_146 : ew_iV RX0 146 0 kX1_writeRun 1 := ⟨⟨_, rfl, ew_q q2392⟩, Or.inl (ew_q q2390), ew_q q2391, ⟨by decide +kernel, by decide +kernel⟩, by decide +kernel, w_X1_writeRun, ew_q q122, by decide⟩
theorem vX0_149 : ew_iV RX0 149 0 kX1_textByte 1 := ⟨⟨_, rfl, ew_q q2399⟩, Or.inl (ew_q q2397), ew_q q2398, ⟨by decide +kernel, by decide +kernel⟩, by decide +kernel, w_X1_textByte, ew_q q122, by decide⟩
theorem vX0_152 : ew_iV RX0 152 0 kX1_setLow 2 := ⟨⟨_, rfl, ew_q q2416⟩, Or.inl (ew_q q2414), ew_q q2415, ⟨by decide +kernel, by decide +kernel⟩, by decide +kernel, w_X1_setLow, ew_q q122, by decide⟩
theorem vX0_155 : ew_iV RX0 155 0 kX1_setHigh 2 := ⟨⟨_, rfl, ew_q q2475⟩, Or.inl (ew_q q2473), ew_q q2474, ⟨by decide +kernel, by decide +kernel⟩, by decide +kernel, w_X1_setHigh, ew_q q122, by decide⟩
theorem vX0_158 : ew_iV RX0 158 0 kX1_setCost 2 := ⟨⟨_, rfl, ew_q q2482⟩, Or.inl (ew_q q2480), ew_q q2481, ⟨by decide +kernel, by decide +kernel⟩, by decide +kernel, w_X1_setCost, ew_q q122, by decide⟩
theorem vX0_161 : ew_iV RX0 161 0 kX1_turn 1 := ⟨⟨_, rfl, ew_q q2493⟩, Or.inl (ew_q q2491), ew_q q2492, ⟨by decide +kernel, by decide +kernel⟩, by decide +kernel, w_X1_turn, ew_q q122, by decide⟩
theorem vX0_164 : ew_iV RX0 164 0 kX1_addWindow 4 := ⟨⟨_, rfl, ew_q q2500⟩, Or.inl (ew_q q2498), ew_q q2499, ⟨by decide +kernel, by decide +kernel⟩, by decide +kernel, w_X1_addWindow, ew_q q122, by decide⟩
theorem vX0_168 : ew_iV RX0 168 0 kX1_fix 2 := ⟨⟨_, rfl, ew_q q2508⟩, Or.inl (ew_q q2506), ew_q q2507, ⟨by decide +kernel, by decide +kernel⟩, by decide +kernel, w_X1_fix, ew_q q122, by decide⟩
theorem vX0_171 : ew_iV RX0 171 0 kX1_free 1 := ⟨⟨_, rfl, ew_q q2515⟩, Or.inl (ew_q q2513), ew_q q2514, ⟨by decide +kernel, by decide +kernel⟩, by decide +kernel, w_X1_free, ew_q q122, by decide⟩
theorem vX0_174 : ew_iV RX0 174 0 kX1_setDelay 2 := ⟨⟨_, rfl, ew_q q2522⟩, Or.inl (ew_q q2520), ew_q q2521, ⟨by decide +kernel, by decide +kernel⟩, by decide +kernel, w_X1_setDelay, ew_q q122, by decide⟩
theorem vX0_177 : ew_iV RX0 177 0 kX1_setWish 2 := ⟨⟨_, rfl, ew_q q2529⟩, Or.inl (ew_q q2527), ew_q q2528, ⟨by decide +kernel, by decide +kernel⟩, by decide +kernel, w_X1_setWish, ew_q q122, by decide⟩
theorem vX0_180 : ew_iV RX0 180 0 kX1_tighten 0 := ⟨⟨_, rfl, ew_q q2536⟩, Or.inl (ew_q q2534), ew_q q2535, ⟨by decide +kernel, by decide +kernel⟩, by decide +kernel, w_X1_tighten, ew_q q122, by decide⟩
theorem vX0_183 : ew_iV RX0 183 0 kX1_mend 0 := ⟨⟨_, rfl, ew_q q2548⟩, Or.inl (ew_q q2546), ew_q q2547, ⟨by decide +kernel, by decide +kernel⟩, by decide +kernel, w_X1_mend, ew_q q122, by decide⟩
theorem vX0_186 : ew_iV RX0 186 0 kX1_dropLeast 0 := ⟨⟨_, rfl, ew_q q2555⟩, Or.inl (ew_q q2553), ew_q q2554, ⟨by decide +kernel, by decide +kernel⟩, by decide +kernel, w_X1_dropLeast, ew_q q122, by decide⟩
theorem vX0_189 : ew_iV RX0 189 0 kX1_undo 0 := ⟨⟨_, rfl, ew_q q2562⟩, Or.inl (ew_q q2560), ew_q q2561, ⟨by decide +kernel, by decide +kernel⟩, by decide +kernel, w_X1_undo, ew_q q122, by decide⟩
theorem vX0_192 : ew_iV RX0 192 0 kX1_save 1 := ⟨⟨_, rfl, ew_q q2584⟩, Or.inl (ew_q q2582), ew_q q2583, ⟨by decide +kernel, by decide +kernel⟩, by decide +kernel, w_X1_save, ew_q q122, by decide⟩
theorem vX0_195 : ew_iV RX0 195 0 kX1_restore 1 := ⟨⟨_, rfl, ew_q q2591⟩, Or.inl (ew_q q2589), ew_q q2590, ⟨by decide +kernel, by decide +kernel⟩, by decide +kernel, w_X1_restore, ew_q q122, by decide⟩
theorem nX0_8 : ew_N RX0 8 0 [.null, .int 0, .int 0, .int 0, .null, .null, .null, .null, .null, .null, .null] := ⟨RX1, TX1, 11, tyX1, rfl, in_X1, tyX1_ok, ew_q q171, ew_q q172, ew_q q122, rfl, fun j h => (show ∀ j, j < 11 → defaultValue (tyX1 j) = vp_V [.null, .int 0, .int 0, .int 0, .null, .null, .null, .null, .null, .null, .null] j by decide) j h⟩
theorem iX0_198 : ew_iI RX0 198 kX1_init 0 := ⟨Or.inl (ew_q q173), ew_q q174, rfl, rfl, rfl, ⟨by decide +kernel, by decide +kernel⟩, by decide +kernel, w_X1_init, ew_q q122, by decide⟩
theorem nX0_199 : ew_N RX0 199 1 [.int 0, .null, .int 0, .int 0, .int 0, .int 0, .int 0, .int 0, .int 0, .int 0, .null, .null, .int 0, .int 0, .int 0, .int 0, .null, .null, .null, .null, .null, .int 0, .int 0, .null, .null, .null, .null, .null, .int 0, .null, .null, .null, .null, .int 0, .int 0, .int 0, .int 0, .int 0, .null, .int 0, .null, .int 0] := ⟨RX2, TX2, 42, tyX2, rfl, in_X2, tyX2_ok, ew_q q2593, ew_q q2594, ew_q q129, rfl, fun j h => (show ∀ j, j < 42 → defaultValue (tyX2 j) = vp_V [.int 0, .null, .int 0, .int 0, .int 0, .int 0, .int 0, .int 0, .int 0, .int 0, .null, .null, .int 0, .int 0, .int 0, .int 0, .null, .null, .null, .null, .null, .int 0, .int 0, .null, .null, .null, .null, .null, .int 0, .null, .null, .null, .null, .int 0, .int 0, .int 0, .int 0, .int 0, .null, .int 0, .null, .int 0] j by decide) j h⟩
theorem iX0_201 : ew_iI RX0 201 kX2_init 0 := ⟨Or.inl (ew_q q2595), ew_q q2596, rfl, rfl, rfl, ⟨by decide +kernel, by decide +kernel⟩, by decide +kernel, w_X2_init, ew_q q129, by decide⟩
theorem vX0_202 : ew_iV RX0 202 0 kX1_append 5 := ⟨⟨_, rfl, ew_q q271⟩, Or.inl (ew_q q269), ew_q q270, ⟨by decide +kernel, by decide +kernel⟩, by decide +kernel, w_X1_append, ew_q q122, by decide⟩
theorem vX0_206 : ew_iV RX0 206 1 kX2_append 5 := ⟨⟨_, rfl, ew_q q2733⟩, Or.inl (ew_q q2731), ew_q q2732, ⟨by decide +kernel, by decide +kernel⟩, by decide +kernel, w_X2_append, ew_q q129, by decide⟩
theorem sX0_207 : ew_iS RX0 207 kX0_load 3 := ⟨Or.inl (ew_q q319), ew_q q320, ⟨by decide +kernel, by decide +kernel⟩, by decide +kernel, w_X0_load, ew_q q121, by decide⟩
theorem vX0_212 : ew_iV RX0 212 1 kX2_load 1 := ⟨⟨_, rfl, ew_q q2753⟩, Or.inl (ew_q q2751), ew_q q2752, ⟨by decide +kernel, by decide +kernel⟩, by decide +kernel, w_X2_load, ew_q q129, by decide⟩
theorem vX0_213 : ew_iV RX0 213 1 kX2_thrown 0 := ⟨⟨_, rfl, ew_q q2729⟩, Or.inl (ew_q q2727), ew_q q2728, ⟨by decide +kernel, by decide +kernel⟩, by decide +kernel, w_X2_thrown, ew_q q129, by decide⟩
theorem vX0_216 : ew_iV RX0 216 0 kX1_parseError 0 := ⟨⟨_, rfl, ew_q q276⟩, Or.inl (ew_q q274), ew_q q275, ⟨by decide +kernel, by decide +kernel⟩, by decide +kernel, w_X1_parseError, ew_q q122, by decide⟩
theorem vX0_219 : ew_iV RX0 219 1 kX2_parseError 0 := ⟨⟨_, rfl, ew_q q2741⟩, Or.inl (ew_q q2739), ew_q q2740, ⟨by decide +kernel, by decide +kernel⟩, by decide +kernel, w_X2_parseError, ew_q q129, by decide⟩
theorem vX0_220 : ew_iV RX0 220 0 kX1_errorPosition 0 := ⟨⟨_, rfl, ew_q q280⟩, Or.inl (ew_q q278), ew_q q279, ⟨by decide +kernel, by decide +kernel⟩, by decide +kernel, w_X1_errorPosition, ew_q q122, by decide⟩
theorem vX0_223 : ew_iV RX0 223 1 kX2_errorPosition 0 := ⟨⟨_, rfl, ew_q q2745⟩, Or.inl (ew_q q2743), ew_q q2744, ⟨by decide +kernel, by decide +kernel⟩, by decide +kernel, w_X2_errorPosition, ew_q q129, by decide⟩
theorem vX0_224 : ew_iV RX0 224 0 kX1_buffered 0 := ⟨⟨_, rfl, ew_q q284⟩, Or.inl (ew_q q282), ew_q q283, ⟨by decide +kernel, by decide +kernel⟩, by decide +kernel, w_X1_buffered, ew_q q122, by decide⟩
theorem vX0_227 : ew_iV RX0 227 1 kX2_buffered 0 := ⟨⟨_, rfl, ew_q q2749⟩, Or.inl (ew_q q2747), ew_q q2748, ⟨by decide +kernel, by decide +kernel⟩, by decide +kernel, w_X2_buffered, ew_q q129, by decide⟩
theorem vX0_228 : ew_iV RX0 228 0 kX1_events 0 := ⟨⟨_, rfl, ew_q q288⟩, Or.inl (ew_q q286), ew_q q287, ⟨by decide +kernel, by decide +kernel⟩, by decide +kernel, w_X1_events, ew_q q122, by decide⟩
theorem vX0_231 : ew_iV RX0 231 1 kX2_events 0 := ⟨⟨_, rfl, ew_q q2846⟩, Or.inl (ew_q q2844), ew_q q2845, ⟨by decide +kernel, by decide +kernel⟩, by decide +kernel, w_X2_events, ew_q q129, by decide⟩
theorem vX0_232 : ew_iV RX0 232 0 kX1_windows 0 := ⟨⟨_, rfl, ew_q q296⟩, Or.inl (ew_q q294), ew_q q295, ⟨by decide +kernel, by decide +kernel⟩, by decide +kernel, w_X1_windows, ew_q q122, by decide⟩
theorem vX0_235 : ew_iV RX0 235 1 kX2_windows 0 := ⟨⟨_, rfl, ew_q q2858⟩, Or.inl (ew_q q2856), ew_q q2857, ⟨by decide +kernel, by decide +kernel⟩, by decide +kernel, w_X2_windows, ew_q q129, by decide⟩
theorem sX0_236 : ew_iS RX0 236 kX0_letter 4 := ⟨Or.inl (ew_q q1573), ew_q q1574, ⟨by decide +kernel, by decide +kernel⟩, by decide +kernel, w_X0_letter, ew_q q121, by decide⟩
theorem vX0_239 : ew_iV RX0 239 1 kX2_letter 2 := ⟨⟨_, rfl, ew_q q2866⟩, Or.inl (ew_q q2864), ew_q q2865, ⟨by decide +kernel, by decide +kernel⟩, by decide +kernel, w_X2_letter, ew_q q129, by decide⟩
theorem sX0_240 : ew_iS RX0 240 kX0_window 4 := ⟨Or.inl (ew_q q1609), ew_q q1610, ⟨by decide +kernel, by decide +kernel⟩, by decide +kernel, w_X0_window, ew_q q121, by decide⟩
theorem vX0_242 : ew_iV RX0 242 1 kX2_window 2 := ⟨⟨_, rfl, ew_q q2878⟩, Or.inl (ew_q q2876), ew_q q2877, ⟨by decide +kernel, by decide +kernel⟩, by decide +kernel, w_X2_window, ew_q q129, by decide⟩
theorem sX0_243 : ew_iS RX0 243 kX0_fixedAt 3 := ⟨Or.inl (ew_q q1630), ew_q q1631, ⟨by decide +kernel, by decide +kernel⟩, by decide +kernel, w_X0_fixedAt, ew_q q121, by decide⟩
theorem vX0_245 : ew_iV RX0 245 1 kX2_fixedAt 1 := ⟨⟨_, rfl, ew_q q2894⟩, Or.inl (ew_q q2892), ew_q q2893, ⟨by decide +kernel, by decide +kernel⟩, by decide +kernel, w_X2_fixedAt, ew_q q129, by decide⟩
theorem sX0_246 : ew_iS RX0 246 kX0_delay 3 := ⟨Or.inl (ew_q q1637), ew_q q1638, ⟨by decide +kernel, by decide +kernel⟩, by decide +kernel, w_X0_delay, ew_q q121, by decide⟩
theorem vX0_248 : ew_iV RX0 248 1 kX2_delay 1 := ⟨⟨_, rfl, ew_q q2898⟩, Or.inl (ew_q q2896), ew_q q2897, ⟨by decide +kernel, by decide +kernel⟩, by decide +kernel, w_X2_delay, ew_q q129, by decide⟩
theorem sX0_249 : ew_iS RX0 249 kX0_wish 3 := ⟨Or.inl (ew_q q1644), ew_q q1645, ⟨by decide +kernel, by decide +kernel⟩, by decide +kernel, w_X0_wish, ew_q q121, by decide⟩
theorem vX0_251 : ew_iV RX0 251 1 kX2_wish 1 := ⟨⟨_, rfl, ew_q q2902⟩, Or.inl (ew_q q2900), ew_q q2901, ⟨by decide +kernel, by decide +kernel⟩, by decide +kernel, w_X2_wish, ew_q q129, by decide⟩
theorem sX0_252 : ew_iS RX0 252 kX0_isSound 2 := ⟨Or.inl (ew_q q1651), ew_q q1652, ⟨by decide +kernel, by decide +kernel⟩, by decide +kernel, w_X0_isSound, ew_q q121, by decide⟩
theorem vX0_255 : ew_iV RX0 255 1 kX2_isSound 0 := ⟨⟨_, rfl, ew_q q2906⟩, Or.inl (ew_q q2904), ew_q q2905, ⟨by decide +kernel, by decide +kernel⟩, by decide +kernel, w_X2_isSound, ew_q q129, by decide⟩
theorem sX0_256 : ew_iS RX0 256 kX0_roundLength 2 := ⟨Or.inl (ew_q q1707), ew_q q1708, ⟨by decide +kernel, by decide +kernel⟩, by decide +kernel, w_X0_roundLength, ew_q q121, by decide⟩
theorem vX0_258 : ew_iV RX0 258 1 kX2_roundLength 0 := ⟨⟨_, rfl, ew_q q2948⟩, Or.inl (ew_q q2946), ew_q q2947, ⟨by decide +kernel, by decide +kernel⟩, by decide +kernel, w_X2_roundLength, ew_q q129, by decide⟩
theorem sX0_259 : ew_iS RX0 259 kX0_roundStep 3 := ⟨Or.inl (ew_q q1809), ew_q q1810, ⟨by decide +kernel, by decide +kernel⟩, by decide +kernel, w_X0_roundStep, ew_q q121, by decide⟩
theorem vX0_261 : ew_iV RX0 261 1 kX2_roundStep 1 := ⟨⟨_, rfl, ew_q q2972⟩, Or.inl (ew_q q2970), ew_q q2971, ⟨by decide +kernel, by decide +kernel⟩, by decide +kernel, w_X2_roundStep, ew_q q129, by decide⟩
theorem sX0_262 : ew_iS RX0 262 kX0_roundLack 2 := ⟨Or.inl (ew_q q1817), ew_q q1818, ⟨by decide +kernel, by decide +kernel⟩, by decide +kernel, w_X0_roundLack, ew_q q121, by decide⟩
theorem vX0_264 : ew_iV RX0 264 1 kX2_roundLack 0 := ⟨⟨_, rfl, ew_q q2976⟩, Or.inl (ew_q q2974), ew_q q2975, ⟨by decide +kernel, by decide +kernel⟩, by decide +kernel, w_X2_roundLack, ew_q q129, by decide⟩
theorem sX0_265 : ew_iS RX0 265 kX0_most 4 := ⟨Or.inl (ew_q q1824), ew_q q1825, ⟨by decide +kernel, by decide +kernel⟩, by decide +kernel, w_X0_most, ew_q q121, by decide⟩
theorem vX0_267 : ew_iV RX0 267 1 kX2_most 2 := ⟨⟨_, rfl, ew_q q2980⟩, Or.inl (ew_q q2978), ew_q q2979, ⟨by decide +kernel, by decide +kernel⟩, by decide +kernel, w_X2_most, ew_q q129, by decide⟩
theorem sX0_268 : ew_iS RX0 268 kX0_least 4 := ⟨Or.inl (ew_q q1845), ew_q q1846, ⟨by decide +kernel, by decide +kernel⟩, by decide +kernel, w_X0_least, ew_q q121, by decide⟩
theorem vX0_270 : ew_iV RX0 270 1 kX2_least 2 := ⟨⟨_, rfl, ew_q q2996⟩, Or.inl (ew_q q2994), ew_q q2995, ⟨by decide +kernel, by decide +kernel⟩, by decide +kernel, w_X2_least, ew_q q129, by decide⟩
theorem sX0_271 : ew_iS RX0 271 kX0_earliest 3 := ⟨Or.inl (ew_q q1852), ew_q q1853, ⟨by decide +kernel, by decide +kernel⟩, by decide +kernel, w_X0_earliest, ew_q q121, by decide⟩
theorem vX0_273 : ew_iV RX0 273 1 kX2_earliest 1 := ⟨⟨_, rfl, ew_q q3004⟩, Or.inl (ew_q q3002), ew_q q3003, ⟨by decide +kernel, by decide +kernel⟩, by decide +kernel, w_X2_earliest, ew_q q129, by decide⟩
theorem sX0_274 : ew_iS RX0 274 kX0_latest 3 := ⟨Or.inl (ew_q q1863), ew_q q1864, ⟨by decide +kernel, by decide +kernel⟩, by decide +kernel, w_X0_latest, ew_q q121, by decide⟩
theorem vX0_276 : ew_iV RX0 276 1 kX2_latest 1 := ⟨⟨_, rfl, ew_q q3012⟩, Or.inl (ew_q q3010), ew_q q3011, ⟨by decide +kernel, by decide +kernel⟩, by decide +kernel, w_X2_latest, ew_q q129, by decide⟩
theorem sX0_277 : ew_iS RX0 277 kX0_slack 3 := ⟨Or.inl (ew_q q1877), ew_q q1878, ⟨by decide +kernel, by decide +kernel⟩, by decide +kernel, w_X0_slack, ew_q q121, by decide⟩
theorem vX0_279 : ew_iV RX0 279 1 kX2_slack 1 := ⟨⟨_, rfl, ew_q q3020⟩, Or.inl (ew_q q3018), ew_q q3019, ⟨by decide +kernel, by decide +kernel⟩, by decide +kernel, w_X2_slack, ew_q q129, by decide⟩
theorem sX0_280 : ew_iS RX0 280 kX0_wayLength 4 := ⟨Or.inl (ew_q q1894), ew_q q1895, ⟨by decide +kernel, by decide +kernel⟩, by decide +kernel, w_X0_wayLength, ew_q q121, by decide⟩
theorem vX0_282 : ew_iV RX0 282 1 kX2_wayLength 2 := ⟨⟨_, rfl, ew_q q3028⟩, Or.inl (ew_q q3026), ew_q q3027, ⟨by decide +kernel, by decide +kernel⟩, by decide +kernel, w_X2_wayLength, ew_q q129, by decide⟩
theorem sX0_283 : ew_iS RX0 283 kX0_wayStep 5 := ⟨Or.inl (ew_q q1905), ew_q q1906, ⟨by decide +kernel, by decide +kernel⟩, by decide +kernel, w_X0_wayStep, ew_q q121, by decide⟩
theorem vX0_286 : ew_iV RX0 286 1 kX2_wayStep 3 := ⟨⟨_, rfl, ew_q q3036⟩, Or.inl (ew_q q3034), ew_q q3035, ⟨by decide +kernel, by decide +kernel⟩, by decide +kernel, w_X2_wayStep, ew_q q129, by decide⟩
theorem sX0_287 : ew_iS RX0 287 kX0_isTight 4 := ⟨Or.inl (ew_q q1912), ew_q q1913, ⟨by decide +kernel, by decide +kernel⟩, by decide +kernel, w_X0_isTight, ew_q q121, by decide⟩
theorem vX0_290 : ew_iV RX0 290 1 kX2_isTight 2 := ⟨⟨_, rfl, ew_q q3040⟩, Or.inl (ew_q q3038), ew_q q3039, ⟨by decide +kernel, by decide +kernel⟩, by decide +kernel, w_X2_isTight, ew_q q129, by decide⟩
theorem sX0_291 : ew_iS RX0 291 kX0_isNeeded 3 := ⟨Or.inl (ew_q q1924), ew_q q1925, ⟨by decide +kernel, by decide +kernel⟩, by decide +kernel, w_X0_isNeeded, ew_q q121, by decide⟩
theorem vX0_293 : ew_iV RX0 293 1 kX2_isNeeded 1 := ⟨⟨_, rfl, ew_q q3044⟩, Or.inl (ew_q q3042), ew_q q3043, ⟨by decide +kernel, by decide +kernel⟩, by decide +kernel, w_X2_isNeeded, ew_q q129, by decide⟩
theorem sX0_294 : ew_iS RX0 294 kX0_loose 2 := ⟨Or.inl (ew_q q1939), ew_q q1940, ⟨by decide +kernel, by decide +kernel⟩, by decide +kernel, w_X0_loose, ew_q q121, by decide⟩
theorem vX0_296 : ew_iV RX0 296 1 kX2_loose 0 := ⟨⟨_, rfl, ew_q q3052⟩, Or.inl (ew_q q3050), ew_q q3051, ⟨by decide +kernel, by decide +kernel⟩, by decide +kernel, w_X2_loose, ew_q q129, by decide⟩
theorem sX0_297 : ew_iS RX0 297 kX0_critical 2 := ⟨Or.inl (ew_q q1947), ew_q q1948, ⟨by decide +kernel, by decide +kernel⟩, by decide +kernel, w_X0_critical, ew_q q121, by decide⟩
theorem vX0_299 : ew_iV RX0 299 1 kX2_critical 0 := ⟨⟨_, rfl, ew_q q3056⟩, Or.inl (ew_q q3054), ew_q q3055, ⟨by decide +kernel, by decide +kernel⟩, by decide +kernel, w_X2_critical, ew_q q129, by decide⟩
theorem sX0_300 : ew_iS RX0 300 kX0_mustPrecede 4 := ⟨Or.inl (ew_q q1954), ew_q q1955, ⟨by decide +kernel, by decide +kernel⟩, by decide +kernel, w_X0_mustPrecede, ew_q q121, by decide⟩
theorem vX0_302 : ew_iV RX0 302 1 kX2_mustPrecede 2 := ⟨⟨_, rfl, ew_q q3060⟩, Or.inl (ew_q q3058), ew_q q3059, ⟨by decide +kernel, by decide +kernel⟩, by decide +kernel, w_X2_mustPrecede, ew_q q129, by decide⟩
theorem sX0_303 : ew_iS RX0 303 kX0_canMeet 4 := ⟨Or.inl (ew_q q1961), ew_q q1962, ⟨by decide +kernel, by decide +kernel⟩, by decide +kernel, w_X0_canMeet, ew_q q121, by decide⟩
theorem vX0_305 : ew_iV RX0 305 1 kX2_canMeet 2 := ⟨⟨_, rfl, ew_q q3064⟩, Or.inl (ew_q q3062), ew_q q3063, ⟨by decide +kernel, by decide +kernel⟩, by decide +kernel, w_X2_canMeet, ew_q q129, by decide⟩
theorem sX0_306 : ew_iS RX0 306 kX0_part 3 := ⟨Or.inl (ew_q q1968), ew_q q1969, ⟨by decide +kernel, by decide +kernel⟩, by decide +kernel, w_X0_part, ew_q q121, by decide⟩
theorem vX0_308 : ew_iV RX0 308 1 kX2_part 1 := ⟨⟨_, rfl, ew_q q3068⟩, Or.inl (ew_q q3066), ew_q q3067, ⟨by decide +kernel, by decide +kernel⟩, by decide +kernel, w_X2_part, ew_q q129, by decide⟩
theorem sX0_309 : ew_iS RX0 309 kX0_parts 2 := ⟨Or.inl (ew_q q1979), ew_q q1980, ⟨by decide +kernel, by decide +kernel⟩, by decide +kernel, w_X0_parts, ew_q q121, by decide⟩
theorem vX0_311 : ew_iV RX0 311 1 kX2_parts 0 := ⟨⟨_, rfl, ew_q q3076⟩, Or.inl (ew_q q3074), ew_q q3075, ⟨by decide +kernel, by decide +kernel⟩, by decide +kernel, w_X2_parts, ew_q q129, by decide⟩
theorem sX0_312 : ew_iS RX0 312 kX0_end 2 := ⟨Or.inl (ew_q q1987), ew_q q1988, ⟨by decide +kernel, by decide +kernel⟩, by decide +kernel, w_X0_end, ew_q q121, by decide⟩
theorem vX0_314 : ew_iV RX0 314 1 kX2_end 0 := ⟨⟨_, rfl, ew_q q3080⟩, Or.inl (ew_q q3078), ew_q q3079, ⟨by decide +kernel, by decide +kernel⟩, by decide +kernel, w_X2_end, ew_q q129, by decide⟩
theorem sX0_315 : ew_iS RX0 315 kX0_meanSlack 2 := ⟨Or.inl (ew_q q1995), ew_q q1996, ⟨by decide +kernel, by decide +kernel⟩, by decide +kernel, w_X0_meanSlack, ew_q q121, by decide⟩
theorem vX0_318 : ew_iV RX0 318 1 kX2_meanSlack 0 := ⟨⟨_, rfl, ew_q q3085⟩, Or.inl (ew_q q3083), ew_q q3084, ⟨by decide +kernel, by decide +kernel⟩, by decide +kernel, w_X2_meanSlack, ew_q q129, by decide⟩
theorem sX0_319 : ew_iS RX0 319 kX0_neededShare 2 := ⟨Or.inl (ew_q q2002), ew_q q2003, ⟨by decide +kernel, by decide +kernel⟩, by decide +kernel, w_X0_neededShare, ew_q q121, by decide⟩
theorem vX0_321 : ew_iV RX0 321 1 kX2_neededShare 0 := ⟨⟨_, rfl, ew_q q3089⟩, Or.inl (ew_q q3087), ew_q q3088, ⟨by decide +kernel, by decide +kernel⟩, by decide +kernel, w_X2_neededShare, ew_q q129, by decide⟩
theorem sX0_322 : ew_iS RX0 322 kX0_widening 4 := ⟨Or.inl (ew_q q2009), ew_q q2010, ⟨by decide +kernel, by decide +kernel⟩, by decide +kernel, w_X0_widening, ew_q q121, by decide⟩
theorem vX0_324 : ew_iV RX0 324 1 kX2_widening 2 := ⟨⟨_, rfl, ew_q q3097⟩, Or.inl (ew_q q3095), ew_q q3096, ⟨by decide +kernel, by decide +kernel⟩, by decide +kernel, w_X2_widening, ew_q q129, by decide⟩
theorem sX0_325 : ew_iS RX0 325 kX0_bestMend 2 := ⟨Or.inl (ew_q q2020), ew_q q2021, ⟨by decide +kernel, by decide +kernel⟩, by decide +kernel, w_X0_bestMend, ew_q q121, by decide⟩
theorem vX0_327 : ew_iV RX0 327 1 kX2_bestMend 0 := ⟨⟨_, rfl, ew_q q3105⟩, Or.inl (ew_q q3103), ew_q q3104, ⟨by decide +kernel, by decide +kernel⟩, by decide +kernel, w_X2_bestMend, ew_q q129, by decide⟩
theorem sX0_328 : ew_iS RX0 328 kX0_mendCost 2 := ⟨Or.inl (ew_q q2095), ew_q q2096, ⟨by decide +kernel, by decide +kernel⟩, by decide +kernel, w_X0_mendCost, ew_q q121, by decide⟩
theorem vX0_330 : ew_iV RX0 330 1 kX2_mendCost 0 := ⟨⟨_, rfl, ew_q q3117⟩, Or.inl (ew_q q3115), ew_q q3116, ⟨by decide +kernel, by decide +kernel⟩, by decide +kernel, w_X2_mendCost, ew_q q129, by decide⟩
theorem sX0_331 : ew_iS RX0 331 kX0_leastDrop 2 := ⟨Or.inl (ew_q q2102), ew_q q2103, ⟨by decide +kernel, by decide +kernel⟩, by decide +kernel, w_X0_leastDrop, ew_q q121, by decide⟩
theorem vX0_333 : ew_iV RX0 333 1 kX2_leastDrop 0 := ⟨⟨_, rfl, ew_q q3121⟩, Or.inl (ew_q q3119), ew_q q3120, ⟨by decide +kernel, by decide +kernel⟩, by decide +kernel, w_X2_leastDrop, ew_q q129, by decide⟩
theorem sX0_334 : ew_iS RX0 334 kX0_dropCost 2 := ⟨Or.inl (ew_q q2218), ew_q q2219, ⟨by decide +kernel, by decide +kernel⟩, by decide +kernel, w_X0_dropCost, ew_q q121, by decide⟩
theorem vX0_336 : ew_iV RX0 336 1 kX2_dropCost 0 := ⟨⟨_, rfl, ew_q q3147⟩, Or.inl (ew_q q3145), ew_q q3146, ⟨by decide +kernel, by decide +kernel⟩, by decide +kernel, w_X2_dropCost, ew_q q129, by decide⟩
theorem sX0_337 : ew_iS RX0 337 kX0_runBreaks 3 := ⟨Or.inl (ew_q q2225), ew_q q2226, ⟨by decide +kernel, by decide +kernel⟩, by decide +kernel, w_X0_runBreaks, ew_q q121, by decide⟩
theorem vX0_339 : ew_iV RX0 339 1 kX2_runBreaks 1 := ⟨⟨_, rfl, ew_q q3151⟩, Or.inl (ew_q q3149), ew_q q3150, ⟨by decide +kernel, by decide +kernel⟩, by decide +kernel, w_X2_runBreaks, ew_q q129, by decide⟩
theorem sX0_340 : ew_iS RX0 340 kX0_runTime 4 := ⟨Or.inl (ew_q q2272), ew_q q2273, ⟨by decide +kernel, by decide +kernel⟩, by decide +kernel, w_X0_runTime, ew_q q121, by decide⟩
theorem vX0_342 : ew_iV RX0 342 1 kX2_runTime 2 := ⟨⟨_, rfl, ew_q q3182⟩, Or.inl (ew_q q3180), ew_q q3181, ⟨by decide +kernel, by decide +kernel⟩, by decide +kernel, w_X2_runTime, ew_q q129, by decide⟩
theorem sX0_343 : ew_iS RX0 343 kX0_runEnd 3 := ⟨Or.inl (ew_q q2279), ew_q q2280, ⟨by decide +kernel, by decide +kernel⟩, by decide +kernel, w_X0_runEnd, ew_q q121, by decide⟩
theorem vX0_345 : ew_iV RX0 345 1 kX2_runEnd 1 := ⟨⟨_, rfl, ew_q q3190⟩, Or.inl (ew_q q3188), ew_q q3189, ⟨by decide +kernel, by decide +kernel⟩, by decide +kernel, w_X2_runEnd, ew_q q129, by decide⟩
theorem sX0_346 : ew_iS RX0 346 kX0_spare 4 := ⟨Or.inl (ew_q q2286), ew_q q2287, ⟨by decide +kernel, by decide +kernel⟩, by decide +kernel, w_X0_spare, ew_q q121, by decide⟩
theorem vX0_348 : ew_iV RX0 348 1 kX2_spare 2 := ⟨⟨_, rfl, ew_q q3194⟩, Or.inl (ew_q q3192), ew_q q3193, ⟨by decide +kernel, by decide +kernel⟩, by decide +kernel, w_X2_spare, ew_q q129, by decide⟩
theorem sX0_349 : ew_iS RX0 349 kX0_weakest 3 := ⟨Or.inl (ew_q q2298), ew_q q2299, ⟨by decide +kernel, by decide +kernel⟩, by decide +kernel, w_X0_weakest, ew_q q121, by decide⟩
theorem vX0_351 : ew_iV RX0 351 1 kX2_weakest 1 := ⟨⟨_, rfl, ew_q q3202⟩, Or.inl (ew_q q3200), ew_q q3201, ⟨by decide +kernel, by decide +kernel⟩, by decide +kernel, w_X2_weakest, ew_q q129, by decide⟩
theorem sX0_352 : ew_iS RX0 352 kX0_writeEvent 3 := ⟨Or.inl (ew_q q2305), ew_q q2306, ⟨by decide +kernel, by decide +kernel⟩, by decide +kernel, w_X0_writeEvent, ew_q q121, by decide⟩
theorem vX0_354 : ew_iV RX0 354 1 kX2_writeEvent 1 := ⟨⟨_, rfl, ew_q q3206⟩, Or.inl (ew_q q3204), ew_q q3205, ⟨by decide +kernel, by decide +kernel⟩, by decide +kernel, w_X2_writeEvent, ew_q q129, by decide⟩
theorem sX0_355 : ew_iS RX0 355 kX0_writeRound 2 := ⟨Or.inl (ew_q q2369), ew_q q2370, ⟨by decide +kernel, by decide +kernel⟩, by decide +kernel, w_X0_writeRound, ew_q q121, by decide⟩
theorem vX0_357 : ew_iV RX0 357 1 kX2_writeRound 0 := ⟨⟨_, rfl, ew_q q3231⟩, Or.inl (ew_q q3229), ew_q q3230, ⟨by decide +kernel, by decide +kernel⟩, by decide +kernel, w_X2_writeRound, ew_q q129, by decide⟩
theorem sX0_358 : ew_iS RX0 358 kX0_writeRun 3 := ⟨Or.inl (ew_q q2387), ew_q q2388, ⟨by decide +kernel, by decide +kernel⟩, by decide +kernel, w_X0_writeRun, ew_q q121, by decide⟩
theorem vX0_360 : ew_iV RX0 360 1 kX2_writeRun 1 := ⟨⟨_, rfl, ew_q q3241⟩, Or.inl (ew_q q3239), ew_q q3240, ⟨by decide +kernel, by decide +kernel⟩, by decide +kernel, w_X2_writeRun, ew_q q129, by decide⟩
theorem sX0_361 : ew_iS RX0 361 kX0_textByte 3 := ⟨Or.inl (ew_q q2394), ew_q q2395, ⟨by decide +kernel, by decide +kernel⟩, by decide +kernel, w_X0_textByte, ew_q q121, by decide⟩
theorem vX0_363 : ew_iV RX0 363 1 kX2_textByte 1 := ⟨⟨_, rfl, ew_q q3245⟩, Or.inl (ew_q q3243), ew_q q3244, ⟨by decide +kernel, by decide +kernel⟩, by decide +kernel, w_X2_textByte, ew_q q129, by decide⟩
theorem sX0_364 : ew_iS RX0 364 kX0_setLow 4 := ⟨Or.inl (ew_q q2411), ew_q q2412, ⟨by decide +kernel, by decide +kernel⟩, by decide +kernel, w_X0_setLow, ew_q q121, by decide⟩
theorem vX0_366 : ew_iV RX0 366 1 kX2_setLow 2 := ⟨⟨_, rfl, ew_q q3249⟩, Or.inl (ew_q q3247), ew_q q3248, ⟨by decide +kernel, by decide +kernel⟩, by decide +kernel, w_X2_setLow, ew_q q129, by decide⟩
theorem sX0_367 : ew_iS RX0 367 kX0_setHigh 4 := ⟨Or.inl (ew_q q2470), ew_q q2471, ⟨by decide +kernel, by decide +kernel⟩, by decide +kernel, w_X0_setHigh, ew_q q121, by decide⟩
theorem vX0_369 : ew_iV RX0 369 1 kX2_setHigh 2 := ⟨⟨_, rfl, ew_q q3264⟩, Or.inl (ew_q q3262), ew_q q3263, ⟨by decide +kernel, by decide +kernel⟩, by decide +kernel, w_X2_setHigh, ew_q q129, by decide⟩
theorem sX0_370 : ew_iS RX0 370 kX0_setCost 4 := ⟨Or.inl (ew_q q2477), ew_q q2478, ⟨by decide +kernel, by decide +kernel⟩, by decide +kernel, w_X0_setCost, ew_q q121, by decide⟩
theorem vX0_372 : ew_iV RX0 372 1 kX2_setCost 2 := ⟨⟨_, rfl, ew_q q3268⟩, Or.inl (ew_q q3266), ew_q q3267, ⟨by decide +kernel, by decide +kernel⟩, by decide +kernel, w_X2_setCost, ew_q q129, by decide⟩
theorem sX0_373 : ew_iS RX0 373 kX0_turn 3 := ⟨Or.inl (ew_q q2488), ew_q q2489, ⟨by decide +kernel, by decide +kernel⟩, by decide +kernel, w_X0_turn, ew_q q121, by decide⟩
theorem vX0_375 : ew_iV RX0 375 1 kX2_turn 1 := ⟨⟨_, rfl, ew_q q3276⟩, Or.inl (ew_q q3274), ew_q q3275, ⟨by decide +kernel, by decide +kernel⟩, by decide +kernel, w_X2_turn, ew_q q129, by decide⟩
theorem sX0_376 : ew_iS RX0 376 kX0_addWindow 6 := ⟨Or.inl (ew_q q2495), ew_q q2496, ⟨by decide +kernel, by decide +kernel⟩, by decide +kernel, w_X0_addWindow, ew_q q121, by decide⟩
theorem vX0_379 : ew_iV RX0 379 1 kX2_addWindow 4 := ⟨⟨_, rfl, ew_q q3280⟩, Or.inl (ew_q q3278), ew_q q3279, ⟨by decide +kernel, by decide +kernel⟩, by decide +kernel, w_X2_addWindow, ew_q q129, by decide⟩
theorem sX0_380 : ew_iS RX0 380 kX0_fix 4 := ⟨Or.inl (ew_q q2503), ew_q q2504, ⟨by decide +kernel, by decide +kernel⟩, by decide +kernel, w_X0_fix, ew_q q121, by decide⟩
theorem vX0_382 : ew_iV RX0 382 1 kX2_fix 2 := ⟨⟨_, rfl, ew_q q3284⟩, Or.inl (ew_q q3282), ew_q q3283, ⟨by decide +kernel, by decide +kernel⟩, by decide +kernel, w_X2_fix, ew_q q129, by decide⟩
theorem sX0_383 : ew_iS RX0 383 kX0_free 3 := ⟨Or.inl (ew_q q2510), ew_q q2511, ⟨by decide +kernel, by decide +kernel⟩, by decide +kernel, w_X0_free, ew_q q121, by decide⟩
theorem vX0_385 : ew_iV RX0 385 1 kX2_free 1 := ⟨⟨_, rfl, ew_q q3292⟩, Or.inl (ew_q q3290), ew_q q3291, ⟨by decide +kernel, by decide +kernel⟩, by decide +kernel, w_X2_free, ew_q q129, by decide⟩
theorem sX0_386 : ew_iS RX0 386 kX0_setDelay 4 := ⟨Or.inl (ew_q q2517), ew_q q2518, ⟨by decide +kernel, by decide +kernel⟩, by decide +kernel, w_X0_setDelay, ew_q q121, by decide⟩
theorem vX0_388 : ew_iV RX0 388 1 kX2_setDelay 2 := ⟨⟨_, rfl, ew_q q3296⟩, Or.inl (ew_q q3294), ew_q q3295, ⟨by decide +kernel, by decide +kernel⟩, by decide +kernel, w_X2_setDelay, ew_q q129, by decide⟩
theorem sX0_389 : ew_iS RX0 389 kX0_setWish 4 := ⟨Or.inl (ew_q q2524), ew_q q2525, ⟨by decide +kernel, by decide +kernel⟩, by decide +kernel, w_X0_setWish, ew_q q121, by decide⟩
theorem vX0_391 : ew_iV RX0 391 1 kX2_setWish 2 := ⟨⟨_, rfl, ew_q q3300⟩, Or.inl (ew_q q3298), ew_q q3299, ⟨by decide +kernel, by decide +kernel⟩, by decide +kernel, w_X2_setWish, ew_q q129, by decide⟩
theorem sX0_392 : ew_iS RX0 392 kX0_tighten 2 := ⟨Or.inl (ew_q q2531), ew_q q2532, ⟨by decide +kernel, by decide +kernel⟩, by decide +kernel, w_X0_tighten, ew_q q121, by decide⟩
theorem vX0_394 : ew_iV RX0 394 1 kX2_tighten 0 := ⟨⟨_, rfl, ew_q q3304⟩, Or.inl (ew_q q3302), ew_q q3303, ⟨by decide +kernel, by decide +kernel⟩, by decide +kernel, w_X2_tighten, ew_q q129, by decide⟩
theorem sX0_395 : ew_iS RX0 395 kX0_mend 2 := ⟨Or.inl (ew_q q2543), ew_q q2544, ⟨by decide +kernel, by decide +kernel⟩, by decide +kernel, w_X0_mend, ew_q q121, by decide⟩
theorem vX0_397 : ew_iV RX0 397 1 kX2_mend 0 := ⟨⟨_, rfl, ew_q q3312⟩, Or.inl (ew_q q3310), ew_q q3311, ⟨by decide +kernel, by decide +kernel⟩, by decide +kernel, w_X2_mend, ew_q q129, by decide⟩
theorem sX0_398 : ew_iS RX0 398 kX0_dropLeast 2 := ⟨Or.inl (ew_q q2550), ew_q q2551, ⟨by decide +kernel, by decide +kernel⟩, by decide +kernel, w_X0_dropLeast, ew_q q121, by decide⟩
theorem vX0_400 : ew_iV RX0 400 1 kX2_dropLeast 0 := ⟨⟨_, rfl, ew_q q3316⟩, Or.inl (ew_q q3314), ew_q q3315, ⟨by decide +kernel, by decide +kernel⟩, by decide +kernel, w_X2_dropLeast, ew_q q129, by decide⟩
theorem sX0_401 : ew_iS RX0 401 kX0_undo 2 := ⟨Or.inl (ew_q q2557), ew_q q2558, ⟨by decide +kernel, by decide +kernel⟩, by decide +kernel, w_X0_undo, ew_q q121, by decide⟩
theorem vX0_403 : ew_iV RX0 403 1 kX2_undo 0 := ⟨⟨_, rfl, ew_q q3320⟩, Or.inl (ew_q q3318), ew_q q3319, ⟨by decide +kernel, by decide +kernel⟩, by decide +kernel, w_X2_undo, ew_q q129, by decide⟩
theorem vX0_404 : ew_iV RX0 404 0 kX1_undoable 0 := ⟨⟨_, rfl, ew_q q310⟩, Or.inl (ew_q q308), ew_q q309, ⟨by decide +kernel, by decide +kernel⟩, by decide +kernel, w_X1_undoable, ew_q q122, by decide⟩
theorem vX0_407 : ew_iV RX0 407 1 kX2_undoable 0 := ⟨⟨_, rfl, ew_q q3324⟩, Or.inl (ew_q q3322), ew_q q3323, ⟨by decide +kernel, by decide +kernel⟩, by decide +kernel, w_X2_undoable, ew_q q129, by decide⟩
theorem sX0_408 : ew_iS RX0 408 kX0_save 3 := ⟨Or.inl (ew_q q2579), ew_q q2580, ⟨by decide +kernel, by decide +kernel⟩, by decide +kernel, w_X0_save, ew_q q121, by decide⟩
theorem vX0_410 : ew_iV RX0 410 1 kX2_save 1 := ⟨⟨_, rfl, ew_q q3328⟩, Or.inl (ew_q q3326), ew_q q3327, ⟨by decide +kernel, by decide +kernel⟩, by decide +kernel, w_X2_save, ew_q q129, by decide⟩
theorem sX0_411 : ew_iS RX0 411 kX0_restore 3 := ⟨Or.inl (ew_q q2586), ew_q q2587, ⟨by decide +kernel, by decide +kernel⟩, by decide +kernel, w_X0_restore, ew_q q121, by decide⟩
theorem vX0_413 : ew_iV RX0 413 1 kX2_restore 1 := ⟨⟨_, rfl, ew_q q3332⟩, Or.inl (ew_q q3330), ew_q q3331, ⟨by decide +kernel, by decide +kernel⟩, by decide +kernel, w_X2_restore, ew_q q129, by decide⟩
