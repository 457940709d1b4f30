/-! what calls and fields ask of the tables, bundled -/
set_option maxRecDepth 100000
theorem nmX6 : ∀ a, a < 0 → ∀ b, b < 0 → a ≠ b → (TX6 a).2.1 ≠ (TX6 b).2.1 := fun _ h => absurd h (Nat.not_lt_zero _)
theorem tyX6_ok : ∀ k, k < 0 → parseFieldDescriptor (TX6 k).2.2.1 = some (tyX6 k) := fun _ h => absurd h (Nat.not_lt_zero _)
theorem in_X6 : ∀ w ∈ u_ws RX6 TX6 0, w ∈ lw_all := fun _ h => absurd h List.not_mem_nil
theorem cI0 : gCI 0 RX0 TX0 tyX0 5 := ⟨rfl, in_X0, tyX0_ok, nmX0⟩
theorem df0 : ∀ j, j < 5 → defaultValue (tyX0 j) = vp_V [.null, .null, .null, .null, .int 0] j := by
  intro j hj
  rcases (show j = 0 ∨ j = 1 ∨ j = 2 ∨ j = 3 ∨ j = 4 by omega) with rfl | rfl | rfl | rfl | rfl <;> rfl
theorem cI1 : gCI 1 RX1 TX1 tyX1 7 := ⟨rfl, in_X1, tyX1_ok, nmX1⟩
theorem df1 : ∀ j, j < 7 → defaultValue (tyX1 j) = vp_V [.null, .null, .null, .int 0, .int 0, .int 0, .int 0] j := by
  intro j hj
  rcases (show j = 0 ∨ j = 1 ∨ j = 2 ∨ j = 3 ∨ j = 4 ∨ j = 5 ∨ j = 6 by omega) with rfl | rfl | rfl | rfl | rfl | rfl | rfl <;> rfl
theorem cI2 : gCI 2 RX2 TX2 tyX2 24 := ⟨rfl, in_X2, tyX2_ok, nmX2⟩
theorem df2 : ∀ j, j < 24 → defaultValue (tyX2 j) = vp_V [.null, .null, .int 0, .int 0, .int 0, .int 0, .int 0, .int 0, .int 0, .int 0, .null, .null, .null, .null, .null, .int 0, .int 0, .int 0, .null, .int 0, .int 0, .int 0, .int 0, .int 0] j := by
  intro j hj
  rcases (show j = 0 ∨ j = 1 ∨ j = 2 ∨ j = 3 ∨ j = 4 ∨ j = 5 ∨ j = 6 ∨ j = 7 ∨ j = 8 ∨ j = 9 ∨ j = 10 ∨ j = 11 ∨ j = 12 ∨ j = 13 ∨ j = 14 ∨ j = 15 ∨ j = 16 ∨ j = 17 ∨ j = 18 ∨ j = 19 ∨ j = 20 ∨ j = 21 ∨ j = 22 ∨ j = 23 by omega) with rfl | rfl | rfl | rfl | rfl | rfl | rfl | rfl | rfl | rfl | rfl | rfl | rfl | rfl | rfl | rfl | rfl | rfl | rfl | rfl | rfl | rfl | rfl | rfl <;> rfl
theorem cI3 : gCI 3 RX4 TX4 tyX4 2 := ⟨rfl, in_X4, tyX4_ok, nmX4⟩
theorem df3 : ∀ j, j < 2 → defaultValue (tyX4 j) = vp_V [.int 0, .int 0] j := by
  intro j hj
  rcases (show j = 0 ∨ j = 1 by omega) with rfl | rfl <;> rfl
theorem cI4 : gCI 4 RX5 TX5 tyX5 10 := ⟨rfl, in_X5, tyX5_ok, nmX5⟩
theorem df4 : ∀ j, j < 10 → defaultValue (tyX5 j) = vp_V [.int 0, .int 0, .int 0, .int 0, .int 0, .int 0, .int 0, .int 0, .int 0, .int 0] j := by
  intro j hj
  rcases (show j = 0 ∨ j = 1 ∨ j = 2 ∨ j = 3 ∨ j = 4 ∨ j = 5 ∨ j = 6 ∨ j = 7 ∨ j = 8 ∨ j = 9 by omega) with rfl | rfl | rfl | rfl | rfl | rfl | rfl | rfl | rfl | rfl <;> rfl
theorem cI5 : gCI 5 RX6 TX6 tyX6 0 := ⟨rfl, in_X6, tyX6_ok, nmX6⟩
theorem df5 : ∀ j, j < 0 → defaultValue (tyX6 j) = vp_V [] j := fun _ h => absurd h (Nat.not_lt_zero _)
theorem cI6 : gCI 6 RX7 TX7 tyX7 1 := ⟨rfl, in_X7, tyX7_ok, nmX7⟩
theorem df6 : ∀ j, j < 1 → defaultValue (tyX7 j) = vp_V [.null] j := by
  intro j hj
  rcases (show j = 0 by omega) with rfl <;> rfl
theorem cI7 : gCI 7 RX8 TX8 tyX8 11 := ⟨rfl, in_X8, tyX8_ok, nmX8⟩
theorem df7 : ∀ j, j < 11 → defaultValue (tyX8 j) = vp_V [.null, .null, .null, .null, .null, .int 0, .null, .int 0, .null, .int 0, .null] j := by
  intro j hj
  rcases (show j = 0 ∨ j = 1 ∨ j = 2 ∨ j = 3 ∨ j = 4 ∨ j = 5 ∨ j = 6 ∨ j = 7 ∨ j = 8 ∨ j = 9 ∨ j = 10 by omega) with rfl | rfl | rfl | rfl | rfl | rfl | rfl | rfl | rfl | rfl | rfl <;> rfl
theorem cI8 : gCI 8 RX9 TX9 tyX9 5 := ⟨rfl, in_X9, tyX9_ok, nmX9⟩
theorem df8 : ∀ j, j < 5 → defaultValue (tyX9 j) = vp_V [.int 0, .int 0, .int 0, .int 0, .int 0] j := by
  intro j hj
  rcases (show j = 0 ∨ j = 1 ∨ j = 2 ∨ j = 3 ∨ j = 4 by omega) with rfl | rfl | rfl | rfl | rfl <;> rfl
theorem cI9 : gCI 9 RX10 TX10 tyX10 2 := ⟨rfl, in_X10, tyX10_ok, nmX10⟩
theorem df9 : ∀ j, j < 2 → defaultValue (tyX10 j) = vp_V [.int 0, .int 0] j := by
  intro j hj
  rcases (show j = 0 ∨ j = 1 by omega) with rfl | rfl <;> rfl
theorem cI10 : gCI 10 RX11 TX11 tyX11 2 := ⟨rfl, in_X11, tyX11_ok, nmX11⟩
theorem df10 : ∀ j, j < 2 → defaultValue (tyX11 j) = vp_V [.int 0, .int 0] j := by
  intro j hj
  rcases (show j = 0 ∨ j = 1 by omega) with rfl | rfl <;> rfl
theorem cI11 : gCI 11 RX15 TX15 tyX15 1 := ⟨rfl, in_X15, tyX15_ok, nmX15⟩
theorem df11 : ∀ j, j < 1 → defaultValue (tyX15 j) = vp_V [.null] j := by
  intro j hj
  rcases (show j = 0 by omega) with rfl <;> rfl
theorem cI12 : gCI 12 RX16 TX16 tyX16 4 := ⟨rfl, in_X16, tyX16_ok, nmX16⟩
theorem df12 : ∀ j, j < 4 → defaultValue (tyX16 j) = vp_V [.null, .int 0, .int 0, .null] j := by
  intro j hj
  rcases (show j = 0 ∨ j = 1 ∨ j = 2 ∨ j = 3 by omega) with rfl | rfl | rfl | rfl <;> rfl
theorem cI13 : gCI 13 RX17 TX17 tyX17 3 := ⟨rfl, in_X17, tyX17_ok, nmX17⟩
theorem df13 : ∀ j, j < 3 → defaultValue (tyX17 j) = vp_V [.int 0, .int 0, .int 0] j := by
  intro j hj
  rcases (show j = 0 ∨ j = 1 ∨ j = 2 by omega) with rfl | rfl | rfl <;> rfl
theorem cI14 : gCI 14 RX18 TX18 tyX18 2 := ⟨rfl, in_X18, tyX18_ok, nmX18⟩
theorem df14 : ∀ j, j < 2 → defaultValue (tyX18 j) = vp_V [.int 0, .null] j := by
  intro j hj
  rcases (show j = 0 ∨ j = 1 by omega) with rfl | rfl <;> rfl
theorem cI15 : gCI 15 RX19 TX19 tyX19 7 := ⟨rfl, in_X19, tyX19_ok, nmX19⟩
theorem df15 : ∀ j, j < 7 → defaultValue (tyX19 j) = vp_V [.null, .null, .null, .null, .null, .int 0, .int 0] j := by
  intro j hj
  rcases (show j = 0 ∨ j = 1 ∨ j = 2 ∨ j = 3 ∨ j = 4 ∨ j = 5 ∨ j = 6 by omega) with rfl | rfl | rfl | rfl | rfl | rfl | rfl <;> rfl
theorem cI16 : gCI 16 RX20 TX20 tyX20 5 := ⟨rfl, in_X20, tyX20_ok, nmX20⟩
theorem df16 : ∀ j, j < 5 → defaultValue (tyX20 j) = vp_V [.int 0, .int 0, .int 0, .int 0, .int 0] j := by
  intro j hj
  rcases (show j = 0 ∨ j = 1 ∨ j = 2 ∨ j = 3 ∨ j = 4 by omega) with rfl | rfl | rfl | rfl | rfl <;> rfl
theorem cI17 : gCI 17 RJ3 TJ3 tyJ3 4 := ⟨rfl, in_J3, tyJ3_ok, nmJ3⟩
theorem df17 : ∀ j, j < 4 → defaultValue (tyJ3 j) = vp_V [.int 0, .int 0, .null, .null] j := by
  intro j hj
  rcases (show j = 0 ∨ j = 1 ∨ j = 2 ∨ j = 3 by omega) with rfl | rfl | rfl | rfl <;> rfl
theorem cI18 : gCI 18 RJ30 TJ30 tyJ30 3 := ⟨rfl, in_J30, tyJ30_ok, nmJ30⟩
theorem df18 : ∀ j, j < 3 → defaultValue (tyJ30 j) = vp_V [.null, .null, .null] j := by
  intro j hj
  rcases (show j = 0 ∨ j = 1 ∨ j = 2 by omega) with rfl | rfl | rfl <;> rfl
theorem cI19 : gCI 19 RJ34 TJ34 tyJ34 5 := ⟨rfl, in_J34, tyJ34_ok, nmJ34⟩
theorem df19 : ∀ j, j < 5 → defaultValue (tyJ34 j) = vp_V [.null, .null, .int 0, .int 0, .null] j := by
  intro j hj
  rcases (show j = 0 ∨ j = 1 ∨ j = 2 ∨ j = 3 ∨ j = 4 by omega) with rfl | rfl | rfl | rfl | rfl <;> rfl
theorem cI20 : gCI 20 RJ6 TJ6 tyJ6 4 := ⟨rfl, in_J6, tyJ6_ok, nmJ6⟩
theorem df20 : ∀ j, j < 4 → defaultValue (tyJ6 j) = vp_V [.null, .int 0, .null, .int 0] j := by
  intro j hj
  rcases (show j = 0 ∨ j = 1 ∨ j = 2 ∨ j = 3 by omega) with rfl | rfl | rfl | rfl <;> rfl
theorem cI21 : gCI 21 RJ23 TJ23 tyJ23 6 := ⟨rfl, in_J23, tyJ23_ok, nmJ23⟩
theorem df21 : ∀ j, j < 6 → defaultValue (tyJ23 j) = vp_V [.int 0, .int 0, .null, .null, .int 0, .null] j := by
  intro j hj
  rcases (show j = 0 ∨ j = 1 ∨ j = 2 ∨ j = 3 ∨ j = 4 ∨ j = 5 by omega) with rfl | rfl | rfl | rfl | rfl | rfl <;> rfl
theorem cI22 : gCI 22 RJ7 TJ7 tyJ7 3 := ⟨rfl, in_J7, tyJ7_ok, nmJ7⟩
theorem df22 : ∀ j, j < 3 → defaultValue (tyJ7 j) = vp_V [.null, .int 0, .int 0] j := by
  intro j hj
  rcases (show j = 0 ∨ j = 1 ∨ j = 2 by omega) with rfl | rfl | rfl <;> rfl
theorem cI23 : gCI 23 RJ37 TJ37 tyJ37 4 := ⟨rfl, in_J37, tyJ37_ok, nmJ37⟩
theorem df23 : ∀ j, j < 4 → defaultValue (tyJ37 j) = vp_V [.int 0, .int 0, .int 0, .null] j := by
  intro j hj
  rcases (show j = 0 ∨ j = 1 ∨ j = 2 ∨ j = 3 by omega) with rfl | rfl | rfl | rfl <;> rfl
theorem cI24 : gCI 24 RJ9 TJ9 tyJ9 9 := ⟨rfl, in_J9, tyJ9_ok, nmJ9⟩
theorem df24 : ∀ j, j < 9 → defaultValue (tyJ9 j) = vp_V [.null, .null, .null, .null, .int 0, .int 0, .null, .null, .null] j := by
  intro j hj
  rcases (show j = 0 ∨ j = 1 ∨ j = 2 ∨ j = 3 ∨ j = 4 ∨ j = 5 ∨ j = 6 ∨ j = 7 ∨ j = 8 by omega) with rfl | rfl | rfl | rfl | rfl | rfl | rfl | rfl | rfl <;> rfl
theorem cI25 : gCI 25 RJ21 TJ21 tyJ21 6 := ⟨rfl, in_J21, tyJ21_ok, nmJ21⟩
theorem df25 : ∀ j, j < 6 → defaultValue (tyJ21 j) = vp_V [.null, .null, .null, .null, .null, .int 0] j := by
  intro j hj
  rcases (show j = 0 ∨ j = 1 ∨ j = 2 ∨ j = 3 ∨ j = 4 ∨ j = 5 by omega) with rfl | rfl | rfl | rfl | rfl | rfl <;> rfl
theorem cI26 : gCI 26 RJ39 TJ39 tyJ39 1 := ⟨rfl, in_J39, tyJ39_ok, nmJ39⟩
theorem df26 : ∀ j, j < 1 → defaultValue (tyJ39 j) = vp_V [.null] j := by
  intro j hj
  rcases (show j = 0 by omega) with rfl <;> rfl
theorem cI27 : gCI 27 RJ41 TJ41 tyJ41 4 := ⟨rfl, in_J41, tyJ41_ok, nmJ41⟩
theorem df27 : ∀ j, j < 4 → defaultValue (tyJ41 j) = vp_V [.null, .null, .int 0, .null] j := by
  intro j hj
  rcases (show j = 0 ∨ j = 1 ∨ j = 2 ∨ j = 3 by omega) with rfl | rfl | rfl | rfl <;> rfl
theorem cI28 : gCI 28 RJ11 TJ11 tyJ11 1 := ⟨rfl, in_J11, tyJ11_ok, nmJ11⟩
theorem df28 : ∀ j, j < 1 → defaultValue (tyJ11 j) = vp_V [.int 0] j := by
  intro j hj
  rcases (show j = 0 by omega) with rfl <;> rfl
theorem cI29 : gCI 29 RJ42 TJ42 tyJ42 3 := ⟨rfl, in_J42, tyJ42_ok, nmJ42⟩
theorem df29 : ∀ j, j < 3 → defaultValue (tyJ42 j) = vp_V [.int 0, .null, .int 0] j := by
  intro j hj
  rcases (show j = 0 ∨ j = 1 ∨ j = 2 by omega) with rfl | rfl | rfl <;> rfl
theorem cI30 : gCI 30 RJ32 TJ32 tyJ32 4 := ⟨rfl, in_J32, tyJ32_ok, nmJ32⟩
theorem df30 : ∀ j, j < 4 → defaultValue (tyJ32 j) = vp_V [.int 0, .int 0, .int 0, .null] j := by
  intro j hj
  rcases (show j = 0 ∨ j = 1 ∨ j = 2 ∨ j = 3 by omega) with rfl | rfl | rfl | rfl <;> rfl
theorem miJ0_init : gMi yJ0_init cJ0_init 1 0 := ⟨q198, q104, q199, rfl, by decide +kernel⟩
theorem miJ1_init : gMi yJ1_init cJ1_init 1 0 := ⟨q195, q105, q196, rfl, by decide +kernel⟩
theorem miJ10_init : gMi yJ10_init cJ10_init 1 0 := ⟨q583, q122, q584, rfl, by decide +kernel⟩
theorem msJ11_valueOf : gMs yJ11_valueOf cJ11_valueOf 1 (some (.object "java/lang/Integer")) 1 := ⟨q571, q123, q572, by decide +kernel⟩
theorem miJ11_init : gMi yJ11_init cJ11_init 2 1 := ⟨q580, q123, q581, rfl, by decide +kernel⟩
theorem mvJ11_intValue : gMv yJ11_intValue RJ11 cJ11_intValue 1 (some .int) 0 := ⟨q618, q619, q123, q620, by decide +kernel⟩
theorem msJ11_compare : gMs yJ11_compare cJ11_compare 2 (some .int) 2 := ⟨q622, q123, q623, by decide +kernel⟩
theorem mvJ11_compareTo_2 : gMv yJ11_compareTo_2 RJ11 cJ11_compareTo_2 2 (some .int) 1 := ⟨q770, q771, q123, q772, by decide +kernel⟩
theorem msJ11_numberOfLeadingZeros : gMs yJ11_numberOfLeadingZeros cJ11_numberOfLeadingZeros 2 (some .int) 1 := ⟨q872, q123, q873, by decide +kernel⟩
theorem msJ11_numberOfTrailingZeros : gMs yJ11_numberOfTrailingZeros cJ11_numberOfTrailingZeros 2 (some .int) 1 := ⟨q881, q123, q882, by decide +kernel⟩
theorem msJ12_requireNonNull : gMs yJ12_requireNonNull cJ12_requireNonNull 1 (some (.object "java/lang/Object")) 1 := ⟨q625, q125, q626, by decide +kernel⟩
theorem msJ12_checkIndex : gMs yJ12_checkIndex cJ12_checkIndex 2 (some .int) 2 := ⟨q1399, q125, q1400, by decide +kernel⟩
theorem msJ15_min : gMs yJ15_min cJ15_min 2 (some .int) 2 := ⟨q798, q128, q799, by decide +kernel⟩
theorem msJ15_max : gMs yJ15_max cJ15_max 2 (some .int) 2 := ⟨q1187, q128, q1188, by decide +kernel⟩
theorem miJ2_init : gMi yJ2_init cJ2_init 1 0 := ⟨q192, q106, q193, rfl, by decide +kernel⟩
theorem miJ21_init : gMi yJ21_init cJ21_init 4 3 := ⟨q1019, q136, q1020, rfl, by decide +kernel⟩
theorem miJ23_init : gMi yJ23_init cJ23_init 2 1 := ⟨q1237, q139, q1238, rfl, by decide +kernel⟩
theorem miJ24_init : gMi yJ24_init cJ24_init 1 0 := ⟨q1446, q140, q1447, rfl, by decide +kernel⟩
theorem miJ24_init_2 : gMi yJ24_init_2 cJ24_init_2 2 1 := ⟨q1475, q140, q1476, rfl, by decide +kernel⟩
theorem miJ24_init_3 : gMi yJ24_init_3 cJ24_init_3 5 4 := ⟨q2796, q140, q2797, rfl, by decide +kernel⟩
theorem miJ25_init : gMi yJ25_init cJ25_init 2 1 := ⟨q1472, q141, q1473, rfl, by decide +kernel⟩
theorem miJ25_init_2 : gMi yJ25_init_2 cJ25_init_2 1 0 := ⟨q1994, q141, q1995, rfl, by decide +kernel⟩
theorem miJ25_init_3 : gMi yJ25_init_3 cJ25_init_3 5 4 := ⟨q2793, q141, q2794, rfl, by decide +kernel⟩
theorem miJ3_init : gMi yJ3_init cJ3_init 1 0 := ⟨q189, q107, q190, rfl, by decide +kernel⟩
theorem mvJ3_size : gMv yJ3_size RJ3 cJ3_size 1 (some .int) 0 := ⟨q1301, q3398, q107, q1302, by decide +kernel⟩
theorem mvJ3_checkElementIndex : gMv yJ3_checkElementIndex RJ3 cJ3_checkElementIndex 2 none 1 := ⟨q1413, qs13, q107, q1414, by decide +kernel⟩
theorem mvJ3_isElementIndex : gMv yJ3_isElementIndex RJ3 cJ3_isElementIndex 2 (some .boolean) 1 := ⟨q1417, qs14, q107, q1418, by decide +kernel⟩
theorem mvJ3_node : gMv yJ3_node RJ3 cJ3_node 4 (some (.object "java/util/LinkedList$Node")) 1 := ⟨q1420, q1421, q107, q1422, by decide +kernel⟩
theorem mvJ3_addLast : gMv yJ3_addLast RJ3 cJ3_addLast 2 none 1 := ⟨q1774, q1775, q107, q1776, by decide +kernel⟩
theorem mvJ3_linkLast : gMv yJ3_linkLast RJ3 cJ3_linkLast 4 none 1 := ⟨q1778, q1779, q107, q1780, by decide +kernel⟩
theorem mvJ3_checkPositionIndex : gMv yJ3_checkPositionIndex RJ3 cJ3_checkPositionIndex 2 none 1 := ⟨q1930, qs19, q107, q1931, by decide +kernel⟩
theorem mvJ3_isPositionIndex : gMv yJ3_isPositionIndex RJ3 cJ3_isPositionIndex 2 (some .boolean) 1 := ⟨q1934, qs20, q107, q1935, by decide +kernel⟩
theorem mvJ3_unlink : gMv yJ3_unlink RJ3 cJ3_unlink 5 (some (.object "java/lang/Object")) 1 := ⟨q2014, q2015, q107, q2016, by decide +kernel⟩
theorem miJ30_init : gMi yJ30_init cJ30_init 4 3 := ⟨q1784, q147, q1785, rfl, by decide +kernel⟩
theorem mvJ32_checkForComodification : gMv yJ32_checkForComodification RJ32 cJ32_checkForComodification 1 none 0 := ⟨q1699, q1700, q150, q1703, by decide +kernel⟩
theorem miJ32_init : gMi yJ32_init cJ32_init 2 1 := ⟨q1904, q150, q1905, rfl, by decide +kernel⟩
theorem mvJ34_hasNext : gMv yJ34_hasNext RJ34 cJ34_hasNext 1 (some .boolean) 0 := ⟨q1321, q3397, q152, q1323, by decide +kernel⟩
theorem mvJ34_checkForComodification : gMv yJ34_checkForComodification RJ34 cJ34_checkForComodification 1 none 0 := ⟨q1712, q1713, q152, q1714, by decide +kernel⟩
theorem miJ34_init : gMi yJ34_init cJ34_init 3 2 := ⟨q1939, q152, q1940, rfl, by decide +kernel⟩
theorem mvJ37_postDelete : gMv yJ37_postDelete RJ37 cJ37_postDelete 2 none 1 := ⟨q2048, q2049, q158, q2050, by decide +kernel⟩
theorem miJ37_init : gMi yJ37_init cJ37_init 2 1 := ⟨q2413, q158, q2414, rfl, by decide +kernel⟩
theorem miJ38_init : gMi yJ38_init cJ38_init 1 0 := ⟨q2491, q159, q2492, rfl, by decide +kernel⟩
theorem miJ39_init : gMi yJ39_init cJ39_init 2 1 := ⟨q2488, q160, q2489, rfl, by decide +kernel⟩
theorem miJ40_init : gMi yJ40_init cJ40_init 3 2 := ⟨q2523, q161, q2524, rfl, by decide +kernel⟩
theorem miJ41_init : gMi yJ41_init cJ41_init 3 2 := ⟨q2520, q162, q2521, rfl, by decide +kernel⟩
theorem mvJ42_elementData : gMv yJ42_elementData RJ42 cJ42_elementData 2 (some (.object "java/lang/Object")) 1 := ⟨q1405, q1406, q167, q1407, by decide +kernel⟩
theorem mvJ42_rangeCheckForAdd : gMv yJ42_rangeCheckForAdd RJ42 cJ42_rangeCheckForAdd 2 none 1 := ⟨q1895, qs18, q167, q1897, by decide +kernel⟩
theorem mvJ42_remove : gMv yJ42_remove RJ42 cJ42_remove 4 (some (.object "java/lang/Object")) 1 := ⟨q2003, q3399, q167, q2004, by decide +kernel⟩
theorem mvJ42_fastRemove : gMv yJ42_fastRemove RJ42 cJ42_fastRemove 4 none 2 := ⟨q2007, qs21, q167, q2008, by decide +kernel⟩
theorem miJ42_init : gMi yJ42_init cJ42_init 2 1 := ⟨q2746, q167, q2747, rfl, by decide +kernel⟩
theorem mvJ42_add : gMv yJ42_add RJ42 cJ42_add 2 (some .boolean) 1 := ⟨q2855, q2856, q167, q2857, by decide +kernel⟩
theorem mvJ42_add_2 : gMv yJ42_add_2 RJ42 cJ42_add_2 4 none 3 := ⟨q2860, qs52, q167, q2861, by decide +kernel⟩
theorem mvJ42_grow : gMv yJ42_grow RJ42 cJ42_grow 1 (some (.array (.object "java/lang/Object"))) 0 := ⟨q2864, qs53, q167, q2865, by decide +kernel⟩
theorem mvJ42_grow_2 : gMv yJ42_grow_2 RJ42 cJ42_grow_2 4 (some (.array (.object "java/lang/Object"))) 1 := ⟨q2868, qs54, q167, q2869, by decide +kernel⟩
theorem mvJ42_iterator : gMv yJ42_iterator RJ42 cJ42_iterator 1 (some (.object "java/util/Iterator")) 0 := ⟨q2880, q2881, q167, q2882, by decide +kernel⟩
theorem miJ5_init : gMi yJ5_init cJ5_init 1 0 := ⟨q285, q113, q286, rfl, by decide +kernel⟩
theorem miJ6_init : gMi yJ6_init cJ6_init 2 1 := ⟨q279, q114, q280, rfl, by decide +kernel⟩
theorem miJ6_init_2 : gMi yJ6_init_2 cJ6_init_2 3 2 := ⟨q282, q114, q283, rfl, by decide +kernel⟩
theorem mvJ6_size : gMv yJ6_size RJ6 cJ6_size 1 (some .int) 0 := ⟨q1139, q1140, q114, q1141, by decide +kernel⟩
theorem mvJ6_add : gMv yJ6_add RJ6 cJ6_add 2 (some .boolean) 1 := ⟨q1172, q1173, q114, q1174, by decide +kernel⟩
theorem mvJ6_offer : gMv yJ6_offer RJ6 cJ6_offer 3 (some .boolean) 1 := ⟨q1176, q1177, q114, q1178, by decide +kernel⟩
theorem mvJ6_grow : gMv yJ6_grow RJ6 cJ6_grow 4 none 1 := ⟨q1181, qs9, q114, q1182, by decide +kernel⟩
theorem mvJ6_siftUp : gMv yJ6_siftUp RJ6 cJ6_siftUp 3 none 2 := ⟨q1208, qs10, q114, q1209, by decide +kernel⟩
theorem msJ6_siftUpUsingComparator : gMs yJ6_siftUpUsingComparator cJ6_siftUpUsingComparator 6 none 4 := ⟨q1211, q114, q1212, by decide +kernel⟩
theorem msJ6_siftUpComparable : gMs yJ6_siftUpComparable cJ6_siftUpComparable 6 none 3 := ⟨q1216, q114, q1217, by decide +kernel⟩
theorem mvJ6_iterator : gMv yJ6_iterator RJ6 cJ6_iterator 1 (some (.object "java/util/Iterator")) 0 := ⟨q1231, q1232, q114, q1233, by decide +kernel⟩
theorem mvJ6_peek : gMv yJ6_peek RJ6 cJ6_peek 1 (some (.object "java/lang/Object")) 0 := ⟨q1829, q1830, q114, q1831, by decide +kernel⟩
theorem mvJ6_removeAt : gMv yJ6_removeAt RJ6 cJ6_removeAt 5 (some (.object "java/lang/Object")) 1 := ⟨q2076, q2077, q114, q2078, by decide +kernel⟩
theorem mvJ6_siftDown : gMv yJ6_siftDown RJ6 cJ6_siftDown 3 none 2 := ⟨q2081, qs22, q114, q2082, by decide +kernel⟩
theorem msJ6_siftDownUsingComparator : gMs yJ6_siftDownUsingComparator cJ6_siftDownUsingComparator 9 none 5 := ⟨q2084, q114, q2085, by decide +kernel⟩
theorem msJ6_siftDownComparable : gMs yJ6_siftDownComparable cJ6_siftDownComparable 9 none 4 := ⟨q2087, q114, q2088, by decide +kernel⟩
theorem mvJ6_removeEq : gMv yJ6_removeEq RJ6 cJ6_removeEq 5 none 1 := ⟨q2112, q2113, q114, q2114, by decide +kernel⟩
theorem mvJ6_poll : gMv yJ6_poll RJ6 cJ6_poll 6 (some (.object "java/lang/Object")) 0 := ⟨q2385, q2386, q114, q2387, by decide +kernel⟩
theorem miJ7_init : gMi yJ7_init cJ7_init 2 1 := ⟨q309, q115, q310, rfl, by decide +kernel⟩
theorem mvJ7_isEmpty : gMv yJ7_isEmpty RJ7 cJ7_isEmpty 1 (some .boolean) 0 := ⟨q1331, q1332, q115, q1333, by decide +kernel⟩
theorem msJ7_nonNullElementAt : gMs yJ7_nonNullElementAt cJ7_nonNullElementAt 3 (some (.object "java/lang/Object")) 2 := ⟨q1688, q115, q1689, by decide +kernel⟩
theorem msJ7_inc : gMs yJ7_inc cJ7_inc 2 (some .int) 2 := ⟨q1691, q115, q1692, by decide +kernel⟩
theorem mvJ7_poll : gMv yJ7_poll RJ7 cJ7_poll 1 (some (.object "java/lang/Object")) 0 := ⟨q1722, q1723, q115, q1724, by decide +kernel⟩
theorem mvJ7_pollFirst : gMv yJ7_pollFirst RJ7 cJ7_pollFirst 4 (some (.object "java/lang/Object")) 0 := ⟨q1726, q1727, q115, q1728, by decide +kernel⟩
theorem msJ7_elementAt : gMs yJ7_elementAt cJ7_elementAt 2 (some (.object "java/lang/Object")) 2 := ⟨q1730, q115, q1731, by decide +kernel⟩
theorem mvJ7_delete : gMv yJ7_delete RJ7 cJ7_delete 8 (some .boolean) 1 := ⟨q2037, q2038, q115, q2039, by decide +kernel⟩
theorem msJ7_sub : gMs yJ7_sub cJ7_sub 3 (some .int) 3 := ⟨q2041, q115, q2042, by decide +kernel⟩
theorem msJ7_dec : gMs yJ7_dec cJ7_dec 2 (some .int) 2 := ⟨q2045, q115, q2046, by decide +kernel⟩
theorem miJ7_init_2 : gMi yJ7_init_2 cJ7_init_2 1 0 := ⟨q2091, q115, q2092, rfl, by decide +kernel⟩
theorem mvJ7_add : gMv yJ7_add RJ7 cJ7_add 2 (some .boolean) 1 := ⟨q2094, q2095, q115, q2096, by decide +kernel⟩
theorem mvJ7_addLast : gMv yJ7_addLast RJ7 cJ7_addLast 3 none 1 := ⟨q2098, q2099, q115, q2100, by decide +kernel⟩
theorem mvJ7_grow : gMv yJ7_grow RJ7 cJ7_grow 9 none 1 := ⟨q2103, qs23, q115, q2104, by decide +kernel⟩
theorem mvJ7_newCapacity : gMv yJ7_newCapacity RJ7 cJ7_newCapacity 5 (some .int) 2 := ⟨q2108, qs24, q115, q2109, by decide +kernel⟩
theorem mvJ7_size : gMv yJ7_size RJ7 cJ7_size 1 (some .int) 0 := ⟨q2247, q2248, q115, q2249, by decide +kernel⟩
theorem mvJ7_iterator : gMv yJ7_iterator RJ7 cJ7_iterator 1 (some (.object "java/util/Iterator")) 0 := ⟨q2407, q2408, q115, q2409, by decide +kernel⟩
theorem miJ8_init : gMi yJ8_init cJ8_init 1 0 := ⟨q339, q116, q340, rfl, by decide +kernel⟩
theorem miJ9_init : gMi yJ9_init cJ9_init 2 1 := ⟨q336, q117, q337, rfl, by decide +kernel⟩
theorem mvJ9_size : gMv yJ9_size RJ9 cJ9_size 1 (some .int) 0 := ⟨q567, q568, q117, q569, by decide +kernel⟩
theorem mvJ9_containsKey : gMv yJ9_containsKey RJ9 cJ9_containsKey 2 (some .boolean) 1 := ⟨q591, q592, q117, q593, by decide +kernel⟩
theorem mvJ9_getEntry : gMv yJ9_getEntry RJ9 cJ9_getEntry 5 (some (.object "java/util/TreeMap$Entry")) 1 := ⟨q595, q596, q117, q597, by decide +kernel⟩
theorem mvJ9_getEntryUsingComparator : gMv yJ9_getEntryUsingComparator RJ9 cJ9_getEntryUsingComparator 6 (some (.object "java/util/TreeMap$Entry")) 1 := ⟨q599, q600, q117, q601, by decide +kernel⟩
theorem mvJ9_put : gMv yJ9_put RJ9 cJ9_put 3 (some (.object "java/lang/Object")) 2 := ⟨q1001, q1002, q117, q1003, by decide +kernel⟩
theorem mvJ9_put_2 : gMv yJ9_put_2 RJ9 cJ9_put_2 10 (some (.object "java/lang/Object")) 3 := ⟨q1006, qs0, q117, q1007, by decide +kernel⟩
theorem mvJ9_addEntryToEmptyMap : gMv yJ9_addEntryToEmptyMap RJ9 cJ9_addEntryToEmptyMap 3 none 2 := ⟨q1010, qs1, q117, q1011, by decide +kernel⟩
theorem mvJ9_compare : gMv yJ9_compare RJ9 cJ9_compare 3 (some .int) 2 := ⟨q1013, q1014, q117, q1015, by decide +kernel⟩
theorem mvJ9_addEntry : gMv yJ9_addEntry RJ9 cJ9_addEntry 6 none 4 := ⟨q1050, qs2, q117, q1051, by decide +kernel⟩
theorem mvJ9_fixAfterInsertion : gMv yJ9_fixAfterInsertion RJ9 cJ9_fixAfterInsertion 3 none 1 := ⟨q1054, qs3, q117, q1055, by decide +kernel⟩
theorem msJ9_parentOf : gMs yJ9_parentOf cJ9_parentOf 1 (some (.object "java/util/TreeMap$Entry")) 1 := ⟨q1057, q117, q1058, by decide +kernel⟩
theorem msJ9_leftOf : gMs yJ9_leftOf cJ9_leftOf 1 (some (.object "java/util/TreeMap$Entry")) 1 := ⟨q1060, q117, q1061, by decide +kernel⟩
theorem msJ9_rightOf : gMs yJ9_rightOf cJ9_rightOf 1 (some (.object "java/util/TreeMap$Entry")) 1 := ⟨q1063, q117, q1064, by decide +kernel⟩
theorem msJ9_colorOf : gMs yJ9_colorOf cJ9_colorOf 1 (some .boolean) 1 := ⟨q1066, q117, q1067, by decide +kernel⟩
theorem msJ9_setColor : gMs yJ9_setColor cJ9_setColor 2 none 2 := ⟨q1069, q117, q1070, by decide +kernel⟩
theorem mvJ9_rotateLeft : gMv yJ9_rotateLeft RJ9 cJ9_rotateLeft 3 none 1 := ⟨q1073, qs4, q117, q1074, by decide +kernel⟩
theorem mvJ9_rotateRight : gMv yJ9_rotateRight RJ9 cJ9_rotateRight 3 none 1 := ⟨q1077, qs5, q117, q1078, by decide +kernel⟩
theorem mvJ9_remove : gMv yJ9_remove RJ9 cJ9_remove 4 (some (.object "java/lang/Object")) 1 := ⟨q1084, q1085, q117, q1086, by decide +kernel⟩
theorem mvJ9_deleteEntry : gMv yJ9_deleteEntry RJ9 cJ9_deleteEntry 3 none 1 := ⟨q1089, qs6, q117, q1090, by decide +kernel⟩
theorem msJ9_successor : gMs yJ9_successor cJ9_successor 3 (some (.object "java/util/TreeMap$Entry")) 1 := ⟨q1092, q117, q1093, by decide +kernel⟩
theorem mvJ9_fixAfterDeletion : gMv yJ9_fixAfterDeletion RJ9 cJ9_fixAfterDeletion 3 none 1 := ⟨q1096, qs7, q117, q1097, by decide +kernel⟩
theorem mvJ9_get : gMv yJ9_get RJ9 cJ9_get 3 (some (.object "java/lang/Object")) 1 := ⟨q2241, q2242, q117, q2243, by decide +kernel⟩
theorem mvJ9_keySet : gMv yJ9_keySet RJ9 cJ9_keySet 1 (some (.object "java/util/Set")) 0 := ⟨q2478, q2479, q117, q2480, by decide +kernel⟩
theorem mvJ9_navigableKeySet : gMv yJ9_navigableKeySet RJ9 cJ9_navigableKeySet 2 (some (.object "java/util/NavigableSet")) 0 := ⟨q2482, q2483, q117, q2484, by decide +kernel⟩
theorem mvJ9_keyIterator : gMv yJ9_keyIterator RJ9 cJ9_keyIterator 1 (some (.object "java/util/Iterator")) 0 := ⟨q2510, q2511, q117, q2512, by decide +kernel⟩
theorem mvJ9_getFirstEntry : gMv yJ9_getFirstEntry RJ9 cJ9_getFirstEntry 2 (some (.object "java/util/TreeMap$Entry")) 0 := ⟨q2516, q2517, q117, q2518, by decide +kernel⟩
theorem mvJ9_higherKey : gMv yJ9_higherKey RJ9 cJ9_higherKey 2 (some (.object "java/lang/Object")) 1 := ⟨q2668, q2669, q117, q2670, by decide +kernel⟩
theorem mvJ9_getHigherEntry : gMv yJ9_getHigherEntry RJ9 cJ9_getHigherEntry 6 (some (.object "java/util/TreeMap$Entry")) 1 := ⟨q2672, q2673, q117, q2674, by decide +kernel⟩
theorem msJ9_keyOrNull : gMs yJ9_keyOrNull cJ9_keyOrNull 1 (some (.object "java/lang/Object")) 1 := ⟨q2676, q117, q2677, by decide +kernel⟩
theorem mvJ9_lowerKey : gMv yJ9_lowerKey RJ9 cJ9_lowerKey 2 (some (.object "java/lang/Object")) 1 := ⟨q2685, q2686, q117, q2687, by decide +kernel⟩
theorem mvJ9_getLowerEntry : gMv yJ9_getLowerEntry RJ9 cJ9_getLowerEntry 6 (some (.object "java/util/TreeMap$Entry")) 1 := ⟨q2689, q2690, q117, q2691, by decide +kernel⟩
theorem miX0_init : gMi yX0_init cX0_init 1 0 := ⟨q173, q102, q174, rfl, by decide +kernel⟩
theorem mvX0_setLimits : gMv yX0_setLimits RX0 cX0_setLimits 5 (some .int) 3 := ⟨q536, q537, q102, q538, by decide +kernel⟩
theorem msX0_isIn : gMs yX0_isIn cX0_isIn 6 (some .boolean) 3 := ⟨q542, q102, q543, by decide +kernel⟩
theorem mvX0_setFilter : gMv yX0_setFilter RX0 cX0_setFilter 5 (some .int) 3 := ⟨q547, q548, q102, q549, by decide +kernel⟩
theorem msX0_isNode : gMs yX0_isNode cX0_isNode 1 (some .boolean) 1 := ⟨q551, q102, q552, by decide +kernel⟩
theorem mvX0_setAnswer : gMv yX0_setAnswer RX0 cX0_setAnswer 6 (some .int) 4 := ⟨q556, q557, q102, q558, by decide +kernel⟩
theorem msX0_isFrame : gMs yX0_isFrame cX0_isFrame 4 (some .boolean) 4 := ⟨q560, q102, q561, by decide +kernel⟩
theorem mvX0_removeAnswer : gMv yX0_removeAnswer RX0 cX0_removeAnswer 4 (some .int) 2 := ⟨q1080, q1081, q102, q1082, by decide +kernel⟩
theorem mvX0_detach : gMv yX0_detach RX0 cX0_detach 4 (some .int) 1 := ⟨q1099, q1100, q102, q1101, by decide +kernel⟩
theorem mvX0_attach : gMv yX0_attach RX0 cX0_attach 2 (some .int) 1 := ⟨q1124, q1125, q102, q1126, by decide +kernel⟩
theorem mvX0_request : gMv yX0_request RX0 cX0_request 7 (some .int) 5 := ⟨q1135, q1136, q102, q1137, by decide +kernel⟩
theorem mvX0_cancel : gMv yX0_cancel RX0 cX0_cancel 3 (some .int) 2 := ⟨q1222, q1223, q102, q1224, by decide +kernel⟩
theorem msX0_shifted : gMs yX0_shifted cX0_shifted 4 (some .int) 2 := ⟨q1373, q102, q1374, by decide +kernel⟩
theorem mvX0_disturb : gMv yX0_disturb RX0 cX0_disturb 3 (some .int) 2 := ⟨q1752, q1753, q102, q1754, by decide +kernel⟩
theorem mvX0_run : gMv yX0_run RX0 cX0_run 2 (some .int) 1 := ⟨q1803, q1804, q102, q1805, by decide +kernel⟩
theorem mvX0_settle : gMv yX0_settle RX0 cX0_settle 1 (some .int) 0 := ⟨q2283, q2284, q102, q2285, by decide +kernel⟩
theorem mvX0_phase : gMv yX0_phase RX0 cX0_phase 2 (some .int) 1 := ⟨q2316, q2317, q102, q2318, by decide +kernel⟩
theorem mvX0_isTransmitter : gMv yX0_isTransmitter RX0 cX0_isTransmitter 2 (some .int) 1 := ⟨q2320, q2321, q102, q2322, by decide +kernel⟩
theorem msX0_bit : gMs yX0_bit cX0_bit 1 (some .int) 1 := ⟨q2332, q102, q2333, by decide +kernel⟩
theorem mvX0_transmitErrors : gMv yX0_transmitErrors RX0 cX0_transmitErrors 2 (some .int) 1 := ⟨q2335, q2336, q102, q2337, by decide +kernel⟩
theorem mvX0_receiveErrors : gMv yX0_receiveErrors RX0 cX0_receiveErrors 2 (some .int) 1 := ⟨q2339, q2340, q102, q2341, by decide +kernel⟩
theorem mvX0_isPassive : gMv yX0_isPassive RX0 cX0_isPassive 2 (some .int) 1 := ⟨q2343, q2344, q102, q2345, by decide +kernel⟩
theorem mvX0_errors : gMv yX0_errors RX0 cX0_errors 3 (some .int) 2 := ⟨q2348, q2349, q102, q2350, by decide +kernel⟩
theorem mvX0_lastError : gMv yX0_lastError RX0 cX0_lastError 2 (some .int) 1 := ⟨q2353, q2354, q102, q2355, by decide +kernel⟩
theorem mvX0_lostArbitrations : gMv yX0_lostArbitrations RX0 cX0_lostArbitrations 2 (some .int) 1 := ⟨q2357, q2358, q102, q2359, by decide +kernel⟩
theorem mvX0_overloads : gMv yX0_overloads RX0 cX0_overloads 2 (some .int) 1 := ⟨q2361, q2362, q102, q2363, by decide +kernel⟩
theorem mvX0_sent : gMv yX0_sent RX0 cX0_sent 2 (some .int) 1 := ⟨q2365, q2366, q102, q2367, by decide +kernel⟩
theorem mvX0_overruns : gMv yX0_overruns RX0 cX0_overruns 2 (some .int) 1 := ⟨q2369, q2370, q102, q2371, by decide +kernel⟩
theorem mvX0_waiting : gMv yX0_waiting RX0 cX0_waiting 2 (some .int) 1 := ⟨q2373, q2374, q102, q2375, by decide +kernel⟩
theorem mvX0_waitingFrame : gMv yX0_waitingFrame RX0 cX0_waitingFrame 3 (some .int) 2 := ⟨q2377, q2378, q102, q2379, by decide +kernel⟩
theorem mvX0_received : gMv yX0_received RX0 cX0_received 2 (some .int) 1 := ⟨q2390, q2391, q102, q2392, by decide +kernel⟩
theorem mvX0_receivedFrame : gMv yX0_receivedFrame RX0 cX0_receivedFrame 4 (some .int) 2 := ⟨q2395, q2396, q102, q2397, by decide +kernel⟩
theorem mvX0_frameAt : gMv yX0_frameAt RX0 cX0_frameAt 3 (some (.object "ArbitratedBus$Frame")) 2 := ⟨q2400, qs40, q102, q2401, by decide +kernel⟩
theorem mvX0_receivedLength : gMv yX0_receivedLength RX0 cX0_receivedLength 4 (some .int) 2 := ⟨q2431, q2432, q102, q2433, by decide +kernel⟩
theorem mvX0_receivedData : gMv yX0_receivedData RX0 cX0_receivedData 4 (some .int) 2 := ⟨q2435, q2436, q102, q2437, by decide +kernel⟩
theorem mvX0_discard : gMv yX0_discard RX0 cX0_discard 3 (some .int) 1 := ⟨q2439, q2440, q102, q2441, by decide +kernel⟩
theorem mvX0_time : gMv yX0_time RX0 cX0_time 1 (some .int) 0 := ⟨q2444, q2445, q102, q2446, by decide +kernel⟩
theorem mvX0_level : gMv yX0_level RX0 cX0_level 2 (some .int) 1 := ⟨q2448, q2449, q102, q2450, by decide +kernel⟩
theorem mvX0_winner : gMv yX0_winner RX0 cX0_winner 1 (some .int) 0 := ⟨q2452, q2453, q102, q2454, by decide +kernel⟩
theorem mvX0_bitsUntilSent : gMv yX0_bitsUntilSent RX0 cX0_bitsUntilSent 2 (some .int) 1 := ⟨q2463, q2464, q102, q2465, by decide +kernel⟩
theorem mvX0_crc : gMv yX0_crc RX0 cX0_crc 5 (some .int) 4 := ⟨q2553, q2554, q102, q2555, by decide +kernel⟩
theorem mvX0_frameBits : gMv yX0_frameBits RX0 cX0_frameBits 5 (some .int) 4 := ⟨q2560, q2561, q102, q2562, by decide +kernel⟩
theorem mvX0_frameBit : gMv yX0_frameBit RX0 cX0_frameBit 6 (some .int) 5 := ⟨q2609, q2610, q102, q2611, by decide +kernel⟩
theorem mvX0_worstBits : gMv yX0_worstBits RX0 cX0_worstBits 2 (some .int) 1 := ⟨q2617, q2618, q102, q2619, by decide +kernel⟩
theorem msX0_worst : gMs yX0_worst cX0_worst 1 (some .int) 1 := ⟨q2621, q102, q2622, by decide +kernel⟩
theorem mvX0_addMessage : gMv yX0_addMessage RX0 cX0_addMessage 5 (some .int) 4 := ⟨q2624, q2625, q102, q2626, by decide +kernel⟩
theorem mvX0_removeMessage : gMv yX0_removeMessage RX0 cX0_removeMessage 2 (some .int) 1 := ⟨q2649, q2650, q102, q2651, by decide +kernel⟩
theorem mvX0_responseTime : gMv yX0_responseTime RX0 cX0_responseTime 2 (some .int) 1 := ⟨q2653, q2654, q102, q2655, by decide +kernel⟩
theorem mvX0_misses : gMv yX0_misses RX0 cX0_misses 1 (some .int) 0 := ⟨q2697, q2698, q102, q2699, by decide +kernel⟩
theorem mvX0_append : gMv yX0_append RX0 cX0_append 2 (some .int) 1 := ⟨q2714, q2715, q102, q2716, by decide +kernel⟩
theorem mvX0_clearText : gMv yX0_clearText RX0 cX0_clearText 2 (some .int) 0 := ⟨q2719, q2720, q102, q2721, by decide +kernel⟩
theorem mvX0_save : gMv yX0_save RX0 cX0_save 2 (some .int) 1 := ⟨q2898, q2899, q102, q2900, by decide +kernel⟩
theorem mvX0_restore : gMv yX0_restore RX0 cX0_restore 2 (some .int) 1 := ⟨q2902, q2903, q102, q2904, by decide +kernel⟩
theorem mvX0_checksum : gMv yX0_checksum RX0 cX0_checksum 4 (some .long) 0 := ⟨q2906, q2907, q102, q2908, by decide +kernel⟩
theorem msX0_mix : gMs yX0_mix cX0_mix 4 (some .long) 2 := ⟨q2911, q102, q2912, by decide +kernel⟩
theorem mvX0_mixNode : gMv yX0_mixNode RX0 cX0_mixNode 8 (some .long) 2 := ⟨q2916, qs55, q102, q2917, by decide +kernel⟩
theorem miX1_init : gMi yX1_init cX1_init 2 0 := ⟨q181, q103, q182, rfl, by decide +kernel⟩
theorem mvX1_attached : gMv yX1_attached RX1 cX1_attached 6 (some .int) 0 := ⟨q1130, q1131, q103, q1132, by decide +kernel⟩
theorem mvX1_run : gMv yX1_run RX1 cX1_run 4 (some .int) 1 := ⟨q1807, q1808, q103, q1809, by decide +kernel⟩
theorem mvX1_sent : gMv yX1_sent RX1 cX1_sent 6 (some .int) 0 := ⟨q1811, q1812, q103, q1813, by decide +kernel⟩
theorem mvX1_step : gMv yX1_step RX1 cX1_step 6 none 0 := ⟨q1815, q1816, q103, q1817, by decide +kernel⟩
theorem mvX1_disturbed : gMv yX1_disturbed RX1 cX1_disturbed 4 (some .int) 0 := ⟨q1873, qs17, q103, q1874, by decide +kernel⟩
theorem mvX1_settle : gMv yX1_settle RX1 cX1_settle 2 (some .int) 0 := ⟨q2287, q2288, q103, q2289, by decide +kernel⟩
theorem mvX1_isSettled : gMv yX1_isSettled RX1 cX1_isSettled 6 (some .boolean) 0 := ⟨q2292, qs39, q103, q2293, by decide +kernel⟩
theorem mvX1_winner : gMv yX1_winner RX1 cX1_winner 5 (some .int) 0 := ⟨q2456, q2457, q103, q2458, by decide +kernel⟩
theorem miX1_init_2 : gMi yX1_init_2 cX1_init_2 4 1 := ⟨q2467, q103, q2468, rfl, by decide +kernel⟩
theorem mvX1_bitsUntilSent : gMv yX1_bitsUntilSent RX1 cX1_bitsUntilSent 4 (some .int) 1 := ⟨q2549, q2550, q103, q2551, by decide +kernel⟩
theorem miX10_init : gMi yX10_init cX10_init 3 2 := ⟨q988, q135, q989, rfl, by decide +kernel⟩
theorem miX11_init : gMi yX11_init cX11_init 3 2 := ⟨q1761, q146, q1762, rfl, by decide +kernel⟩
theorem miX15_init : gMi yX15_init cX15_init 2 1 := ⟨q2566, q163, q2567, rfl, by decide +kernel⟩
theorem mvX15_bits : gMv yX15_bits RX15 cX15_bits 4 (some .int) 0 := ⟨q2575, q2576, q163, q2577, by decide +kernel⟩
theorem mvX15_iterator : gMv yX15_iterator RX15 cX15_iterator 1 (some (.object "java/util/Iterator")) 0 := ⟨q2579, q2580, q163, q2581, by decide +kernel⟩
theorem mvX15_bit : gMv yX15_bit RX15 cX15_bit 5 (some .int) 1 := ⟨q2613, q2614, q163, q2615, by decide +kernel⟩
theorem mvX16_isStuffed : gMv yX16_isStuffed RX16 cX16_isStuffed 1 (some .boolean) 0 := ⟨q1271, qs11, q164, q1273, by decide +kernel⟩
theorem mvX16_next_2 : gMv yX16_next_2 RX16 cX16_next_2 2 (some (.object "java/lang/Integer")) 0 := ⟨q1350, q1351, q164, q1352, by decide +kernel⟩
theorem miX16_init : gMi yX16_init cX16_init 2 1 := ⟨q2584, q164, q2585, rfl, by decide +kernel⟩
theorem miX17_init : gMi yX17_init cX17_init 4 3 := ⟨q2632, q165, q2633, rfl, by decide +kernel⟩
theorem mvX17_demand : gMv yX17_demand RX17 cX17_demand 2 (some .int) 1 := ⟨q2693, q2694, q165, q2695, by decide +kernel⟩
theorem miX18_init : gMi yX18_init cX18_init 2 1 := ⟨q2730, q166, q2731, rfl, by decide +kernel⟩
theorem mvX18_all : gMv yX18_all RX18 cX18_all 2 (some (.object "java/util/ArrayList")) 0 := ⟨q2741, q2742, q166, q2743, by decide +kernel⟩
theorem mvX18_wanted : gMv yX18_wanted RX18 cX18_wanted 3 (some (.object "ArbitratedBus$Wanted")) 0 := ⟨q2764, qs43, q166, q2765, by decide +kernel⟩
theorem mvX18_digit : gMv yX18_digit RX18 cX18_digit 2 (some .int) 1 := ⟨q2768, qs44, q166, q2769, by decide +kernel⟩
theorem mvX18_here : gMv yX18_here RX18 cX18_here 1 (some .int) 0 := ⟨q2772, qs45, q166, q2773, by decide +kernel⟩
theorem mvX18_expect : gMv yX18_expect RX18 cX18_expect 2 none 1 := ⟨q2778, qs46, q166, q2779, by decide +kernel⟩
theorem mvX18_sign : gMv yX18_sign RX18 cX18_sign 2 none 1 := ⟨q2806, qs47, q166, q2807, by decide +kernel⟩
theorem mvX18_identifier : gMv yX18_identifier RX18 cX18_identifier 2 (some .int) 0 := ⟨q2810, qs48, q166, q2811, by decide +kernel⟩
theorem mvX18_takeHex : gMv yX18_takeHex RX18 cX18_takeHex 3 (some .int) 1 := ⟨q2814, qs49, q166, q2815, by decide +kernel⟩
theorem mvX18_hex : gMv yX18_hex RX18 cX18_hex 2 (some .int) 0 := ⟨q2818, qs50, q166, q2819, by decide +kernel⟩
theorem mvX18_data : gMv yX18_data RX18 cX18_data 5 (some (.object "ArbitratedBus$Wanted")) 2 := ⟨q2852, qs51, q166, q2853, by decide +kernel⟩
theorem miX19_init : gMi yX19_init cX19_init 2 1 := ⟨q2790, q168, q2791, rfl, by decide +kernel⟩
theorem miX2_init : gMi yX2_init cX2_init 2 1 := ⟨q224, q108, q225, rfl, by decide +kernel⟩
theorem mvX2_enter : gMv yX2_enter RX2 cX2_enter 2 none 1 := ⟨q1121, qs8, q108, q1122, by decide +kernel⟩
theorem mvX2_add : gMv yX2_add RX2 cX2_add 5 none 4 := ⟨q1143, q1144, q108, q1145, by decide +kernel⟩
theorem mvX2_cancel : gMv yX2_cancel RX2 cX2_cancel 6 (some .int) 1 := ⟨q1226, q1227, q108, q1228, by decide +kernel⟩
theorem mvX2_isSending : gMv yX2_isSending RX2 cX2_isSending 1 (some .boolean) 0 := ⟨q1746, q1747, q108, q1748, by decide +kernel⟩
theorem mvX2_driveFrame : gMv yX2_driveFrame RX2 cX2_driveFrame 1 (some .int) 0 := ⟨q1838, qs16, q108, q1839, by decide +kernel⟩
theorem mvX2_begin : gMv yX2_begin RX2 cX2_begin 2 none 1 := ⟨q2133, qs25, q108, q2134, by decide +kernel⟩
theorem mvX2_counts : gMv yX2_counts RX2 cX2_counts 2 (some .boolean) 1 := ⟨q2162, qs26, q108, q2163, by decide +kernel⟩
theorem mvX2_endsRun : gMv yX2_endsRun RX2 cX2_endsRun 3 (some .boolean) 1 := ⟨q2172, qs27, q108, q2173, by decide +kernel⟩
theorem mvX2_fail : gMv yX2_fail RX2 cX2_fail 2 none 1 := ⟨q2190, qs28, q108, q2191, by decide +kernel⟩
theorem mvX2_raiseReceiveErrors : gMv yX2_raiseReceiveErrors RX2 cX2_raiseReceiveErrors 2 none 1 := ⟨q2194, qs29, q108, q2195, by decide +kernel⟩
theorem mvX2_isPassive : gMv yX2_isPassive RX2 cX2_isPassive 1 (some .boolean) 0 := ⟨q2198, q2199, q108, q2200, by decide +kernel⟩
theorem mvX2_stuffedPart : gMv yX2_stuffedPart RX2 cX2_stuffedPart 4 none 1 := ⟨q2211, qs30, q108, q2212, by decide +kernel⟩
theorem mvX2_tail : gMv yX2_tail RX2 cX2_tail 3 none 1 := ⟨q2216, qs31, q108, q2217, by decide +kernel⟩
theorem mvX2_overload : gMv yX2_overload RX2 cX2_overload 1 none 0 := ⟨q2220, qs32, q108, q2221, by decide +kernel⟩
theorem mvX2_finish : gMv yX2_finish RX2 cX2_finish 1 none 0 := ⟨q2226, qs33, q108, q2227, by decide +kernel⟩
theorem mvX2_removeWaiting : gMv yX2_removeWaiting RX2 cX2_removeWaiting 5 none 1 := ⟨q2230, qs34, q108, q2231, by decide +kernel⟩
theorem mvX2_accept : gMv yX2_accept RX2 cX2_accept 2 none 0 := ⟨q2237, qs35, q108, q2238, by decide +kernel⟩
theorem mvX2_flagBit : gMv yX2_flagBit RX2 cX2_flagBit 2 none 1 := ⟨q2256, qs36, q108, q2257, by decide +kernel⟩
theorem mvX2_delimiter : gMv yX2_delimiter RX2 cX2_delimiter 3 none 1 := ⟨q2270, qs37, q108, q2271, by decide +kernel⟩
theorem mvX2_intermission : gMv yX2_intermission RX2 cX2_intermission 2 none 1 := ⟨q2277, qs38, q108, q2278, by decide +kernel⟩
theorem mvX2_isOn : gMv yX2_isOn RX2 cX2_isOn 1 (some .boolean) 0 := ⟨q2295, q2296, q108, q2297, by decide +kernel⟩
theorem mvX2_isTransmitter : gMv yX2_isTransmitter RX2 cX2_isTransmitter 1 (some .boolean) 0 := ⟨q2324, q2325, q108, q2326, by decide +kernel⟩
theorem mvX2_waitingAt : gMv yX2_waitingAt RX2 cX2_waitingAt 5 (some (.object "ArbitratedBus$Frame")) 1 := ⟨q2381, q2382, q108, q2383, by decide +kernel⟩
theorem mvX2_receivedAt : gMv yX2_receivedAt RX2 cX2_receivedAt 5 (some (.object "ArbitratedBus$Frame")) 1 := ⟨q2403, q2404, q108, q2405, by decide +kernel⟩
theorem miX2_init_2 : gMi yX2_init_2 cX2_init_2 5 2 := ⟨q2470, q108, q2471, rfl, by decide +kernel⟩
theorem miX20_init : gMi yX20_init cX20_init 6 5 := ⟨q2826, q169, q2827, rfl, by decide +kernel⟩
theorem miX4_init : gMi yX4_init cX4_init 1 0 := ⟨q235, q111, q236, rfl, by decide +kernel⟩
theorem mvX4_isDue : gMv yX4_isDue RX4 cX4_isDue 1 (some .boolean) 0 := ⟨q1283, q1284, q111, q1287, by decide +kernel⟩
theorem mvX4_stuff : gMv yX4_stuff RX4 cX4_stuff 1 (some .int) 0 := ⟨q1355, q1356, q111, q1359, by decide +kernel⟩
theorem mvX4_see : gMv yX4_see RX4 cX4_see 2 none 1 := ⟨q1377, q1378, q111, q1381, by decide +kernel⟩
theorem miX5_init : gMi yX5_init cX5_init 1 0 := ⟨q232, q112, q233, rfl, by decide +kernel⟩
theorem mvX5_isStuffed : gMv yX5_isStuffed RX5 cX5_isStuffed 1 (some .boolean) 0 := ⟨q1841, q1842, q112, q1843, by decide +kernel⟩
theorem mvX5_bare : gMv yX5_bare RX5 cX5_bare 1 (some .int) 0 := ⟨q1845, q1846, q112, q1847, by decide +kernel⟩
theorem mvX5_isIntact : gMv yX5_isIntact RX5 cX5_isIntact 1 (some .boolean) 0 := ⟨q1859, q1860, q112, q1861, by decide +kernel⟩
theorem mvX5_clear : gMv yX5_clear RX5 cX5_clear 1 none 0 := ⟨q2137, q2138, q112, q2139, by decide +kernel⟩
theorem mvX5_take : gMv yX5_take RX5 cX5_take 2 none 1 := ⟨q2156, q2157, q112, q2158, by decide +kernel⟩
theorem mvX5_copyAll : gMv yX5_copyAll RX5 cX5_copyAll 2 none 1 := ⟨q2474, q2475, q112, q2476, by decide +kernel⟩
theorem miX6_init : gMi yX6_init cX6_init 1 0 := ⟨q331, q118, q332, rfl, by decide +kernel⟩
theorem mvX6_compare_2 : gMv yX6_compare_2 RX6 cX6_compare_2 3 (some .int) 2 := ⟨q614, q615, q118, q616, by decide +kernel⟩
theorem miX7_init : gMi yX7_init cX7_init 1 0 := ⟨q505, q119, q506, rfl, by decide +kernel⟩
theorem mvX7_response : gMv yX7_response RX7 cX7_response 6 (some .int) 1 := ⟨q2657, q2658, q119, q2659, by decide +kernel⟩
theorem mvX7_blocking : gMv yX7_blocking RX7 cX7_blocking 4 (some .int) 1 := ⟨q2665, qs41, q119, q2666, by decide +kernel⟩
theorem mvX7_interference : gMv yX7_interference RX7 cX7_interference 5 (some .int) 2 := ⟨q2682, qs42, q119, q2683, by decide +kernel⟩
theorem mvX7_misses : gMv yX7_misses RX7 cX7_misses 4 (some .int) 0 := ⟨q2701, q2702, q119, q2703, by decide +kernel⟩
theorem miX8_init : gMi yX8_init cX8_init 2 0 := ⟨q2936, q120, q2937, rfl, by decide +kernel⟩
theorem msX8_at : gMs yX8_at cX8_at 2 (some .int) 2 := ⟨q2940, q120, q2941, by decide +kernel⟩
theorem mvX8_crc : gMv yX8_crc RX8 cX8_crc 6 (some .int) 4 := ⟨q2978, q2979, q120, q2980, by decide +kernel⟩
theorem msX8_isFrame : gMs yX8_isFrame cX8_isFrame 5 (some .boolean) 4 := ⟨q2982, q120, q2983, by decide +kernel⟩
theorem msX8_in : gMs yX8_in cX8_in 3 (some .boolean) 3 := ⟨q2985, q120, q2986, by decide +kernel⟩
theorem msX8_lays : gMs yX8_lays cX8_lays 7 (some .int) 6 := ⟨q2988, q120, q2989, by decide +kernel⟩
theorem msX8_bits : gMs yX8_bits cX8_bits 5 none 4 := ⟨q2991, q120, q2992, by decide +kernel⟩
theorem msX8_crcOf : gMs yX8_crcOf cX8_crcOf 6 (some .int) 3 := ⟨q2994, q120, q2995, by decide +kernel⟩
theorem mvX8_frameBits : gMv yX8_frameBits RX8 cX8_frameBits 5 (some .int) 4 := ⟨q2997, q2998, q120, q2999, by decide +kernel⟩
theorem mvX8_onBus : gMv yX8_onBus RX8 cX8_onBus 8 (some .int) 2 := ⟨q3002, qs56, q120, q3003, by decide +kernel⟩
theorem mvX8_frameBit : gMv yX8_frameBit RX8 cX8_frameBit 6 (some .int) 5 := ⟨q3005, q3006, q120, q3007, by decide +kernel⟩
theorem mvX8_worstBits : gMv yX8_worstBits RX8 cX8_worstBits 2 (some .int) 1 := ⟨q3009, q3010, q120, q3011, by decide +kernel⟩
theorem msX8_worst : gMs yX8_worst cX8_worst 1 (some .int) 1 := ⟨q3013, q120, q3014, by decide +kernel⟩
theorem mvX8_setLimits : gMv yX8_setLimits RX8 cX8_setLimits 5 (some .int) 3 := ⟨q3016, q3017, q120, q3018, by decide +kernel⟩
theorem mvX8_setFilter : gMv yX8_setFilter RX8 cX8_setFilter 5 (some .int) 3 := ⟨q3020, q3021, q120, q3022, by decide +kernel⟩
theorem msX8_isNode : gMs yX8_isNode cX8_isNode 1 (some .boolean) 1 := ⟨q3024, q120, q3025, by decide +kernel⟩
theorem mvX8_setAnswer : gMv yX8_setAnswer RX8 cX8_setAnswer 6 (some .int) 4 := ⟨q3027, q3028, q120, q3029, by decide +kernel⟩
theorem mvX8_answerFor : gMv yX8_answerFor RX8 cX8_answerFor 4 (some .int) 2 := ⟨q3032, qs57, q120, q3033, by decide +kernel⟩
theorem msX8_answer : gMs yX8_answer cX8_answer 3 (some .int) 3 := ⟨q3035, q120, q3036, by decide +kernel⟩
theorem mvX8_removeAnswer : gMv yX8_removeAnswer RX8 cX8_removeAnswer 5 (some .int) 2 := ⟨q3038, q3039, q120, q3040, by decide +kernel⟩
theorem mvX8_detach : gMv yX8_detach RX8 cX8_detach 3 (some .int) 1 := ⟨q3042, q3043, q120, q3044, by decide +kernel⟩
theorem mvX8_goes : gMv yX8_goes RX8 cX8_goes 3 none 2 := ⟨q3047, qs58, q120, q3048, by decide +kernel⟩
theorem mvX8_releases : gMv yX8_releases RX8 cX8_releases 3 none 1 := ⟨q3051, qs59, q120, q3052, by decide +kernel⟩
theorem msX8_wait : gMs yX8_wait cX8_wait 3 (some .int) 3 := ⟨q3054, q120, q3055, by decide +kernel⟩
theorem mvX8_attach : gMv yX8_attach RX8 cX8_attach 4 (some .int) 1 := ⟨q3057, q3058, q120, q3059, by decide +kernel⟩
theorem mvX8_request : gMv yX8_request RX8 cX8_request 6 (some .int) 5 := ⟨q3061, q3062, q120, q3063, by decide +kernel⟩
theorem mvX8_isRoom : gMv yX8_isRoom RX8 cX8_isRoom 2 (some .boolean) 1 := ⟨q3066, qs60, q120, q3067, by decide +kernel⟩
theorem mvX8_waits : gMv yX8_waits RX8 cX8_waits 9 none 5 := ⟨q3070, qs61, q120, q3071, by decide +kernel⟩
theorem mvX8_cancel : gMv yX8_cancel RX8 cX8_cancel 5 (some .int) 2 := ⟨q3073, q3074, q120, q3075, by decide +kernel⟩
theorem mvX8_unwaits : gMv yX8_unwaits RX8 cX8_unwaits 4 none 2 := ⟨q3078, qs62, q120, q3079, by decide +kernel⟩
theorem mvX8_disturb : gMv yX8_disturb RX8 cX8_disturb 3 (some .int) 2 := ⟨q3081, q3082, q120, q3083, by decide +kernel⟩
theorem mvX8_run : gMv yX8_run RX8 cX8_run 4 (some .int) 1 := ⟨q3085, q3086, q120, q3087, by decide +kernel⟩
theorem mvX8_sentByAll : gMv yX8_sentByAll RX8 cX8_sentByAll 1 (some .int) 0 := ⟨q3090, qs63, q120, q3091, by decide +kernel⟩
theorem mvX8_bit : gMv yX8_bit RX8 cX8_bit 4 none 0 := ⟨q3094, qs64, q120, q3095, by decide +kernel⟩
theorem mvX8_drives : gMv yX8_drives RX8 cX8_drives 2 (some .int) 1 := ⟨q3098, qs65, q120, q3099, by decide +kernel⟩
theorem mvX8_drivesFrame : gMv yX8_drivesFrame RX8 cX8_drivesFrame 3 (some .int) 1 := ⟨q3102, qs66, q120, q3103, by decide +kernel⟩
theorem mvX8_isTransmitting : gMv yX8_isTransmitting RX8 cX8_isTransmitting 2 (some .boolean) 1 := ⟨q3106, qs67, q120, q3107, by decide +kernel⟩
theorem mvX8_isChecked : gMv yX8_isChecked RX8 cX8_isChecked 3 (some .boolean) 1 := ⟨q3110, qs68, q120, q3111, by decide +kernel⟩
theorem mvX8_total : gMv yX8_total RX8 cX8_total 2 (some .int) 1 := ⟨q3114, qs69, q120, q3115, by decide +kernel⟩
theorem mvX8_sampledLength : gMv yX8_sampledLength RX8 cX8_sampledLength 2 (some .int) 1 := ⟨q3118, qs70, q120, q3119, by decide +kernel⟩
theorem mvX8_sampled : gMv yX8_sampled RX8 cX8_sampled 6 (some .int) 3 := ⟨q3122, qs71, q120, q3123, by decide +kernel⟩
theorem mvX8_inverted : gMv yX8_inverted RX8 cX8_inverted 3 (some .int) 0 := ⟨q3126, qs72, q120, q3127, by decide +kernel⟩
theorem mvX8_acts : gMv yX8_acts RX8 cX8_acts 3 none 2 := ⟨q3130, qs73, q120, q3131, by decide +kernel⟩
theorem mvX8_idles : gMv yX8_idles RX8 cX8_idles 4 none 2 := ⟨q3134, qs74, q120, q3135, by decide +kernel⟩
theorem mvX8_begins : gMv yX8_begins RX8 cX8_begins 4 none 2 := ⟨q3138, qs75, q120, q3139, by decide +kernel⟩
theorem mvX8_errs : gMv yX8_errs RX8 cX8_errs 3 none 2 := ⟨q3142, qs76, q120, q3143, by decide +kernel⟩
theorem mvX8_receives : gMv yX8_receives RX8 cX8_receives 4 none 2 := ⟨q3146, qs77, q120, q3147, by decide +kernel⟩
theorem mvX8_isPassiveNow : gMv yX8_isPassiveNow RX8 cX8_isPassiveNow 2 (some .boolean) 1 := ⟨q3150, qs78, q120, q3151, by decide +kernel⟩
theorem mvX8_stuffed : gMv yX8_stuffed RX8 cX8_stuffed 8 none 2 := ⟨q3154, qs79, q120, q3155, by decide +kernel⟩
theorem mvX8_tails : gMv yX8_tails RX8 cX8_tails 5 none 2 := ⟨q3158, qs80, q120, q3159, by decide +kernel⟩
theorem mvX8_ends : gMv yX8_ends RX8 cX8_ends 4 none 2 := ⟨q3162, qs81, q120, q3163, by decide +kernel⟩
theorem mvX8_accepts : gMv yX8_accepts RX8 cX8_accepts 7 none 1 := ⟨q3166, qs82, q120, q3167, by decide +kernel⟩
theorem msX8_got : gMs yX8_got cX8_got 3 (some .int) 3 := ⟨q3169, q120, q3170, by decide +kernel⟩
theorem mvX8_flags : gMv yX8_flags RX8 cX8_flags 3 none 1 := ⟨q3173, qs83, q120, q3174, by decide +kernel⟩
theorem mvX8_delimits : gMv yX8_delimits RX8 cX8_delimits 5 none 2 := ⟨q3177, qs84, q120, q3178, by decide +kernel⟩
theorem mvX8_intermits : gMv yX8_intermits RX8 cX8_intermits 4 none 2 := ⟨q3181, qs85, q120, q3182, by decide +kernel⟩
theorem mvX8_suspends : gMv yX8_suspends RX8 cX8_suspends 3 none 2 := ⟨q3185, qs86, q120, q3186, by decide +kernel⟩
theorem mvX8_recovers : gMv yX8_recovers RX8 cX8_recovers 3 none 2 := ⟨q3189, qs87, q120, q3190, by decide +kernel⟩
theorem mvX8_passes : gMv yX8_passes RX8 cX8_passes 3 none 0 := ⟨q3193, qs88, q120, q3194, by decide +kernel⟩
theorem mvX8_settle : gMv yX8_settle RX8 cX8_settle 2 (some .int) 0 := ⟨q3196, q3197, q120, q3198, by decide +kernel⟩
theorem mvX8_isSettled : gMv yX8_isSettled RX8 cX8_isSettled 4 (some .boolean) 0 := ⟨q3201, qs89, q120, q3202, by decide +kernel⟩
theorem mvX8_phase : gMv yX8_phase RX8 cX8_phase 2 (some .int) 1 := ⟨q3204, q3205, q120, q3206, by decide +kernel⟩
theorem mvX8_of : gMv yX8_of RX8 cX8_of 3 (some .int) 2 := ⟨q3209, qs90, q120, q3210, by decide +kernel⟩
theorem mvX8_isTransmitter : gMv yX8_isTransmitter RX8 cX8_isTransmitter 2 (some .int) 1 := ⟨q3212, q3213, q120, q3214, by decide +kernel⟩
theorem mvX8_transmitErrors : gMv yX8_transmitErrors RX8 cX8_transmitErrors 2 (some .int) 1 := ⟨q3216, q3217, q120, q3218, by decide +kernel⟩
theorem mvX8_receiveErrors : gMv yX8_receiveErrors RX8 cX8_receiveErrors 2 (some .int) 1 := ⟨q3220, q3221, q120, q3222, by decide +kernel⟩
theorem mvX8_isPassive : gMv yX8_isPassive RX8 cX8_isPassive 2 (some .int) 1 := ⟨q3224, q3225, q120, q3226, by decide +kernel⟩
theorem mvX8_errors : gMv yX8_errors RX8 cX8_errors 3 (some .int) 2 := ⟨q3228, q3229, q120, q3230, by decide +kernel⟩
theorem mvX8_lastError : gMv yX8_lastError RX8 cX8_lastError 2 (some .int) 1 := ⟨q3232, q3233, q120, q3234, by decide +kernel⟩
theorem mvX8_lastOf : gMv yX8_lastOf RX8 cX8_lastOf 2 (some .int) 1 := ⟨q3237, qs91, q120, q3238, by decide +kernel⟩
theorem mvX8_lostArbitrations : gMv yX8_lostArbitrations RX8 cX8_lostArbitrations 2 (some .int) 1 := ⟨q3240, q3241, q120, q3242, by decide +kernel⟩
theorem mvX8_overloads : gMv yX8_overloads RX8 cX8_overloads 2 (some .int) 1 := ⟨q3244, q3245, q120, q3246, by decide +kernel⟩
theorem mvX8_sent : gMv yX8_sent RX8 cX8_sent 2 (some .int) 1 := ⟨q3248, q3249, q120, q3250, by decide +kernel⟩
theorem mvX8_overruns : gMv yX8_overruns RX8 cX8_overruns 2 (some .int) 1 := ⟨q3252, q3253, q120, q3254, by decide +kernel⟩
theorem mvX8_waiting : gMv yX8_waiting RX8 cX8_waiting 2 (some .int) 1 := ⟨q3256, q3257, q120, q3258, by decide +kernel⟩
theorem mvX8_waitingFrame : gMv yX8_waitingFrame RX8 cX8_waitingFrame 3 (some .int) 2 := ⟨q3260, q3261, q120, q3262, by decide +kernel⟩
theorem mvX8_keyOf : gMv yX8_keyOf RX8 cX8_keyOf 3 (some .int) 2 := ⟨q3265, qs92, q120, q3266, by decide +kernel⟩
theorem mvX8_received : gMv yX8_received RX8 cX8_received 2 (some .int) 1 := ⟨q3268, q3269, q120, q3270, by decide +kernel⟩
theorem mvX8_receivedFrame : gMv yX8_receivedFrame RX8 cX8_receivedFrame 3 (some .int) 2 := ⟨q3272, q3273, q120, q3274, by decide +kernel⟩
theorem mvX8_isGot : gMv yX8_isGot RX8 cX8_isGot 3 (some .boolean) 2 := ⟨q3277, qs93, q120, q3278, by decide +kernel⟩
theorem mvX8_gotKey : gMv yX8_gotKey RX8 cX8_gotKey 3 (some .int) 2 := ⟨q3281, qs94, q120, q3282, by decide +kernel⟩
theorem mvX8_receivedLength : gMv yX8_receivedLength RX8 cX8_receivedLength 3 (some .int) 2 := ⟨q3284, q3285, q120, q3286, by decide +kernel⟩
theorem mvX8_receivedData : gMv yX8_receivedData RX8 cX8_receivedData 3 (some .int) 2 := ⟨q3288, q3289, q120, q3290, by decide +kernel⟩
theorem mvX8_discard : gMv yX8_discard RX8 cX8_discard 3 (some .int) 1 := ⟨q3292, q3293, q120, q3294, by decide +kernel⟩
theorem mvX8_time : gMv yX8_time RX8 cX8_time 1 (some .int) 0 := ⟨q3296, q3297, q120, q3298, by decide +kernel⟩
theorem mvX8_level : gMv yX8_level RX8 cX8_level 2 (some .int) 1 := ⟨q3300, q3301, q120, q3302, by decide +kernel⟩
theorem mvX8_winner : gMv yX8_winner RX8 cX8_winner 4 (some .int) 0 := ⟨q3304, q3305, q120, q3306, by decide +kernel⟩
theorem mvX8_bitsUntilSent : gMv yX8_bitsUntilSent RX8 cX8_bitsUntilSent 6 (some .int) 1 := ⟨q3308, q3309, q120, q3310, by decide +kernel⟩
theorem mvX8_addMessage : gMv yX8_addMessage RX8 cX8_addMessage 6 (some .int) 4 := ⟨q3312, q3313, q120, q3314, by decide +kernel⟩
theorem mvX8_messageOf : gMv yX8_messageOf RX8 cX8_messageOf 3 (some .int) 1 := ⟨q3317, qs95, q120, q3318, by decide +kernel⟩
theorem mvX8_removeMessage : gMv yX8_removeMessage RX8 cX8_removeMessage 4 (some .int) 1 := ⟨q3320, q3321, q120, q3322, by decide +kernel⟩
theorem mvX8_responseTime : gMv yX8_responseTime RX8 cX8_responseTime 3 (some .int) 1 := ⟨q3324, q3325, q120, q3326, by decide +kernel⟩
theorem mvX8_response : gMv yX8_response RX8 cX8_response 8 (some .int) 1 := ⟨q3329, qs96, q120, q3330, by decide +kernel⟩
theorem mvX8_misses : gMv yX8_misses RX8 cX8_misses 3 (some .int) 0 := ⟨q3332, q3333, q120, q3334, by decide +kernel⟩
theorem mvX8_append : gMv yX8_append RX8 cX8_append 2 (some .int) 1 := ⟨q3336, q3337, q120, q3338, by decide +kernel⟩
theorem mvX8_clearText : gMv yX8_clearText RX8 cX8_clearText 2 (some .int) 0 := ⟨q3340, q3341, q120, q3342, by decide +kernel⟩
theorem mvX8_faultPosition : gMv yX8_faultPosition RX8 cX8_faultPosition 1 (some .int) 0 := ⟨q3344, q3345, q120, q3346, by decide +kernel⟩
theorem mvX8_faultOf : gMv yX8_faultOf RX8 cX8_faultOf 1 (some .int) 0 := ⟨q3349, qs97, q120, q3350, by decide +kernel⟩
theorem mvX8_isRequest : gMv yX8_isRequest RX8 cX8_isRequest 4 (some .boolean) 1 := ⟨q3353, qs98, q120, q3354, by decide +kernel⟩
theorem mvX8_here : gMv yX8_here RX8 cX8_here 1 (some .int) 0 := ⟨q3357, qs99, q120, q3358, by decide +kernel⟩
theorem msX8_hex : gMs yX8_hex cX8_hex 1 (some .int) 1 := ⟨q3360, q120, q3361, by decide +kernel⟩
theorem mvX8_load : gMv yX8_load RX8 cX8_load 4 (some .int) 0 := ⟨q3363, q3364, q120, q3365, by decide +kernel⟩
theorem mvX8_save : gMv yX8_save RX8 cX8_save 3 (some .int) 1 := ⟨q3367, q3368, q120, q3369, by decide +kernel⟩
theorem mvX8_restore : gMv yX8_restore RX8 cX8_restore 3 (some .int) 1 := ⟨q3371, q3372, q120, q3373, by decide +kernel⟩
theorem mvX8_checksum : gMv yX8_checksum RX8 cX8_checksum 4 (some .long) 0 := ⟨q3375, q3376, q120, q3377, by decide +kernel⟩
theorem msX8_more : gMs yX8_more cX8_more 3 (some .long) 2 := ⟨q3380, q120, q3381, by decide +kernel⟩
theorem mvX8_moreOf : gMv yX8_moreOf RX8 cX8_moreOf 7 (some .long) 2 := ⟨q3385, qs100, q120, q3386, by decide +kernel⟩
theorem msX9_fits : gMs yX9_fits cX9_fits 2 (some .boolean) 2 := ⟨q564, q121, q565, by decide +kernel⟩
theorem mvX9_compareTo_2 : gMv yX9_compareTo_2 RX9 cX9_compareTo_2 2 (some .int) 1 := ⟨q640, q641, q121, q642, by decide +kernel⟩
theorem mvX9_key : gMv yX9_key RX9 cX9_key 1 (some .int) 0 := ⟨q644, q645, q121, q646, by decide +kernel⟩
theorem miX9_init : gMi yX9_init cX9_init 6 5 := ⟨q1149, q121, q1150, rfl, by decide +kernel⟩
theorem mvX9_basic : gMv yX9_basic RX9 cX9_basic 1 (some .int) 0 := ⟨q1275, q1276, q121, q1277, by decide +kernel⟩
theorem mvX9_bare : gMv yX9_bare RX9 cX9_bare 1 (some .int) 0 := ⟨q1279, q1280, q121, q1281, by decide +kernel⟩
theorem mvX9_bit : gMv yX9_bit RX9 cX9_bit 2 (some .int) 1 := ⟨q1361, q1362, q121, q1363, by decide +kernel⟩
theorem mvX9_bare_2 : gMv yX9_bare_2 RX9 cX9_bare_2 2 (some .int) 1 := ⟨q1366, qs12, q121, q1367, by decide +kernel⟩
theorem mvX9_crc : gMv yX9_crc RX9 cX9_crc 3 (some .int) 0 := ⟨q1369, q1370, q121, q1371, by decide +kernel⟩
theorem ki_m16 : Int32.ofInt (-16) = (-16) := by decide +kernel
theorem ki_m8 : Int32.ofInt (-8) = (-8) := by decide +kernel
theorem ki_m4 : Int32.ofInt (-4) = (-4) := by decide +kernel
theorem ki_m2 : Int32.ofInt (-2) = (-2) := by decide +kernel
theorem ki_m1 : Int32.ofInt (-1) = (-1) := by decide +kernel
theorem ki_0 : Int32.ofInt 0 = 0 := by decide +kernel
theorem ki_1 : Int32.ofInt 1 = 1 := by decide +kernel
theorem ki_2 : Int32.ofInt 2 = 2 := by decide +kernel
theorem ki_3 : Int32.ofInt 3 = 3 := by decide +kernel
theorem ki_4 : Int32.ofInt 4 = 4 := by decide +kernel
theorem ki_5 : Int32.ofInt 5 = 5 := by decide +kernel
theorem ki_6 : Int32.ofInt 6 = 6 := by decide +kernel
theorem ki_8 : Int32.ofInt 8 = 8 := by decide +kernel
theorem ki_10 : Int32.ofInt 10 = 10 := by decide +kernel
theorem ki_16 : Int32.ofInt 16 = 16 := by decide +kernel
theorem kb_m128 : (Int8.ofInt (-128)).toInt32 = (-128) := by decide +kernel
theorem kb_m5 : (Int8.ofInt (-5)).toInt32 = (-5) := by decide +kernel
theorem kb_m4 : (Int8.ofInt (-4)).toInt32 = (-4) := by decide +kernel
theorem kb_m3 : (Int8.ofInt (-3)).toInt32 = (-3) := by decide +kernel
theorem kb_m2 : (Int8.ofInt (-2)).toInt32 = (-2) := by decide +kernel
theorem kb_6 : (Int8.ofInt 6).toInt32 = 6 := by decide +kernel
theorem kb_7 : (Int8.ofInt 7).toInt32 = 7 := by decide +kernel
theorem kb_8 : (Int8.ofInt 8).toInt32 = 8 := by decide +kernel
theorem kb_9 : (Int8.ofInt 9).toInt32 = 9 := by decide +kernel
theorem kb_10 : (Int8.ofInt 10).toInt32 = 10 := by decide +kernel
theorem kb_11 : (Int8.ofInt 11).toInt32 = 11 := by decide +kernel
theorem kb_12 : (Int8.ofInt 12).toInt32 = 12 := by decide +kernel
theorem kb_13 : (Int8.ofInt 13).toInt32 = 13 := by decide +kernel
theorem kb_14 : (Int8.ofInt 14).toInt32 = 14 := by decide +kernel
theorem kb_15 : (Int8.ofInt 15).toInt32 = 15 := by decide +kernel
theorem kb_16 : (Int8.ofInt 16).toInt32 = 16 := by decide +kernel
theorem kb_17 : (Int8.ofInt 17).toInt32 = 17 := by decide +kernel
theorem kb_18 : (Int8.ofInt 18).toInt32 = 18 := by decide +kernel
theorem kb_19 : (Int8.ofInt 19).toInt32 = 19 := by decide +kernel
theorem kb_20 : (Int8.ofInt 20).toInt32 = 20 := by decide +kernel
theorem kb_21 : (Int8.ofInt 21).toInt32 = 21 := by decide +kernel
theorem kb_22 : (Int8.ofInt 22).toInt32 = 22 := by decide +kernel
theorem kb_23 : (Int8.ofInt 23).toInt32 = 23 := by decide +kernel
theorem kb_24 : (Int8.ofInt 24).toInt32 = 24 := by decide +kernel
theorem kb_25 : (Int8.ofInt 25).toInt32 = 25 := by decide +kernel
theorem kb_26 : (Int8.ofInt 26).toInt32 = 26 := by decide +kernel
theorem kb_30 : (Int8.ofInt 30).toInt32 = 30 := by decide +kernel
theorem kb_31 : (Int8.ofInt 31).toInt32 = 31 := by decide +kernel
theorem kb_32 : (Int8.ofInt 32).toInt32 = 32 := by decide +kernel
theorem kb_33 : (Int8.ofInt 33).toInt32 = 33 := by decide +kernel
theorem kb_34 : (Int8.ofInt 34).toInt32 = 34 := by decide +kernel
theorem kb_35 : (Int8.ofInt 35).toInt32 = 35 := by decide +kernel
theorem kb_47 : (Int8.ofInt 47).toInt32 = 47 := by decide +kernel
theorem kb_48 : (Int8.ofInt 48).toInt32 = 48 := by decide +kernel
theorem kb_50 : (Int8.ofInt 50).toInt32 = 50 := by decide +kernel
theorem kb_57 : (Int8.ofInt 57).toInt32 = 57 := by decide +kernel
theorem kb_58 : (Int8.ofInt 58).toInt32 = 58 := by decide +kernel
theorem kb_59 : (Int8.ofInt 59).toInt32 = 59 := by decide +kernel
theorem kb_63 : (Int8.ofInt 63).toInt32 = 63 := by decide +kernel
theorem kb_64 : (Int8.ofInt 64).toInt32 = 64 := by decide +kernel
theorem kb_66 : (Int8.ofInt 66).toInt32 = 66 := by decide +kernel
theorem kb_74 : (Int8.ofInt 74).toInt32 = 74 := by decide +kernel
theorem kb_82 : (Int8.ofInt 82).toInt32 = 82 := by decide +kernel
theorem kb_90 : (Int8.ofInt 90).toInt32 = 90 := by decide +kernel
theorem kb_97 : (Int8.ofInt 97).toInt32 = 97 := by decide +kernel
theorem kb_102 : (Int8.ofInt 102).toInt32 = 102 := by decide +kernel
theorem kb_120 : (Int8.ofInt 120).toInt32 = 120 := by decide +kernel
theorem kb_127 : (Int8.ofInt 127).toInt32 = 127 := by decide +kernel
theorem ks_m1000 : (Int16.ofInt (-1000)).toInt32 = (-1000) := by decide +kernel
theorem ks_128 : (Int16.ofInt 128).toInt32 = 128 := by decide +kernel
theorem ks_160 : (Int16.ofInt 160).toInt32 = 160 := by decide +kernel
theorem ks_200 : (Int16.ofInt 200).toInt32 = 200 := by decide +kernel
theorem ks_255 : (Int16.ofInt 255).toInt32 = 255 := by decide +kernel
theorem ks_256 : (Int16.ofInt 256).toInt32 = 256 := by decide +kernel
theorem ks_500 : (Int16.ofInt 500).toInt32 = 500 := by decide +kernel
theorem ks_1000 : (Int16.ofInt 1000).toInt32 = 1000 := by decide +kernel
theorem ks_1024 : (Int16.ofInt 1024).toInt32 = 1024 := by decide +kernel
theorem ks_1025 : (Int16.ofInt 1025).toInt32 = 1025 := by decide +kernel
theorem ks_1026 : (Int16.ofInt 1026).toInt32 = 1026 := by decide +kernel
theorem ks_1027 : (Int16.ofInt 1027).toInt32 = 1027 := by decide +kernel
theorem ks_1028 : (Int16.ofInt 1028).toInt32 = 1028 := by decide +kernel
theorem ks_1029 : (Int16.ofInt 1029).toInt32 = 1029 := by decide +kernel
theorem ks_1050 : (Int16.ofInt 1050).toInt32 = 1050 := by decide +kernel
theorem ks_1310 : (Int16.ofInt 1310).toInt32 = 1310 := by decide +kernel
theorem ks_2047 : (Int16.ofInt 2047).toInt32 = 2047 := by decide +kernel
theorem ks_2620 : (Int16.ofInt 2620).toInt32 = 2620 := by decide +kernel
theorem ks_5000 : (Int16.ofInt 5000).toInt32 = 5000 := by decide +kernel
theorem ks_17817 : (Int16.ofInt 17817).toInt32 = 17817 := by decide +kernel
theorem ks_32767 : (Int16.ofInt 32767).toInt32 = 32767 := by decide +kernel
