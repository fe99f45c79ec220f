set_option maxRecDepth 100000
/-! THE CLASS's SMALL CHECKS -/
theorem at_X1_IAE : ∀ w ∈ vx_at0 "CableTrayPlanner" 3 "java/lang/IllegalArgumentException" ["java/lang/RuntimeException", "java/lang/Exception"], OKw w := okw_of _ [96, 408, 417, 429, 432, 434, 409, 410, 147, 148, 411, 416, 430, 594, 398, 595, 400, 596, 402, 412, 414, 404, 1602, 1603, 1604, 1142, 389, 1142, 1143, 1144, 1145, 391, 1145, 1146, 1147, 409, 393, 1601, 387, 388, 395, 396, 397, 399, 401, 403, 592, 406, 405] (by decide +kernel) (by decide +kernel)
theorem gd_X1_IAE : ∀ w ∈ Cond.classLink "CableTrayPlanner" 1 "java/lang/IllegalArgumentException" :: Cond.initialized "java/lang/IllegalArgumentException" :: vx_at0 "CableTrayPlanner" 3 "java/lang/IllegalArgumentException" ["java/lang/RuntimeException", "java/lang/Exception"], vx_ot w = true := by decide +kernel
theorem at_X1_IOE : ∀ w ∈ vx_at0 "CableTrayPlanner" 9 "java/lang/IndexOutOfBoundsException" ["java/lang/RuntimeException", "java/lang/Exception"], OKw w := okw_of _ [96, 408, 417, 429, 432, 434, 409, 410, 147, 148, 411, 416, 430, 594, 398, 595, 400, 596, 402, 412, 414, 404, 1717, 1718, 1719, 1142, 389, 1142, 1143, 1144, 1145, 391, 1145, 1146, 1147, 409, 393, 1716, 1708, 1709, 1710, 426, 1711, 1712, 1713, 1714, 592, 406, 1715] (by decide +kernel) (by decide +kernel)
theorem gd_X1_IOE : ∀ w ∈ Cond.classLink "CableTrayPlanner" 7 "java/lang/IndexOutOfBoundsException" :: Cond.initialized "java/lang/IndexOutOfBoundsException" :: vx_at0 "CableTrayPlanner" 9 "java/lang/IndexOutOfBoundsException" ["java/lang/RuntimeException", "java/lang/Exception"], vx_ot w = true := by decide +kernel
theorem at_X1_ISE : ∀ w ∈ vx_at0 "CableTrayPlanner" 12 "java/lang/IllegalStateException" ["java/lang/RuntimeException", "java/lang/Exception"], OKw w := okw_of _ [96, 408, 417, 429, 432, 434, 409, 410, 147, 148, 411, 416, 430, 594, 398, 595, 400, 596, 402, 412, 414, 404, 1733, 1734, 1735, 1142, 389, 1142, 1143, 1144, 1145, 391, 1145, 1146, 1147, 409, 393, 1732, 1644, 1645, 1646, 425, 1647, 1648, 1649, 1650, 592, 406, 1651] (by decide +kernel) (by decide +kernel)
theorem gd_X1_ISE : ∀ w ∈ Cond.classLink "CableTrayPlanner" 10 "java/lang/IllegalStateException" :: Cond.initialized "java/lang/IllegalStateException" :: vx_at0 "CableTrayPlanner" 12 "java/lang/IllegalStateException" ["java/lang/RuntimeException", "java/lang/Exception"], vx_ot w = true := by decide +kernel
theorem at_X1_NSE : ∀ w ∈ vx_at0 "CableTrayPlanner" 15 "java/util/NoSuchElementException" ["java/lang/RuntimeException", "java/lang/Exception"], OKw w := okw_of _ [96, 408, 417, 429, 432, 434, 409, 410, 147, 148, 411, 416, 430, 594, 398, 595, 400, 596, 402, 412, 414, 404, 1139, 1140, 1141, 1142, 389, 1142, 1143, 1144, 1145, 391, 1145, 1146, 1147, 409, 393, 1138, 1130, 1131, 1132, 428, 1133, 1134, 1135, 1136, 592, 406, 1137] (by decide +kernel) (by decide +kernel)
theorem gd_X1_NSE : ∀ w ∈ Cond.classLink "CableTrayPlanner" 13 "java/util/NoSuchElementException" :: Cond.initialized "java/util/NoSuchElementException" :: vx_at0 "CableTrayPlanner" 15 "java/util/NoSuchElementException" ["java/lang/RuntimeException", "java/lang/Exception"], vx_ot w = true := by decide +kernel
theorem at_X1_ARE : ∀ w ∈ vx_at0 "CableTrayPlanner" 18 "java/lang/ArithmeticException" ["java/lang/RuntimeException", "java/lang/Exception"], OKw w := okw_of _ [96, 408, 417, 429, 432, 434, 409, 410, 147, 148, 411, 416, 430, 594, 398, 595, 400, 596, 402, 412, 414, 404, 2448, 2449, 2450, 1142, 389, 1142, 1143, 1144, 1145, 391, 1145, 1146, 1147, 409, 393, 2447, 2426, 2437, 2438, 423, 2432, 2433, 2435, 2431, 592, 406, 2430] (by decide +kernel) (by decide +kernel)
theorem gd_X1_ARE : ∀ w ∈ Cond.classLink "CableTrayPlanner" 16 "java/lang/ArithmeticException" :: Cond.initialized "java/lang/ArithmeticException" :: vx_at0 "CableTrayPlanner" 18 "java/lang/ArithmeticException" ["java/lang/RuntimeException", "java/lang/Exception"], vx_ot w = true := by decide +kernel
theorem at_X1_UOE : ∀ w ∈ vx_at0 "CableTrayPlanner" 373 "java/lang/UnsupportedOperationException" ["java/lang/RuntimeException", "java/lang/Exception"], OKw w := okw_of _ [96, 408, 417, 429, 432, 434, 409, 410, 147, 148, 411, 416, 430, 594, 398, 595, 400, 596, 402, 412, 414, 404, 2136, 2137, 2138, 1142, 389, 1142, 1143, 1144, 1145, 391, 1145, 1146, 1147, 409, 393, 2727, 2127, 2128, 2129, 427, 2130, 2131, 2132, 2133, 592, 406, 2134] (by decide +kernel) (by decide +kernel)
theorem gd_X1_UOE : ∀ w ∈ Cond.classLink "CableTrayPlanner" 371 "java/lang/UnsupportedOperationException" :: Cond.initialized "java/lang/UnsupportedOperationException" :: vx_at0 "CableTrayPlanner" 373 "java/lang/UnsupportedOperationException" ["java/lang/RuntimeException", "java/lang/Exception"], vx_ot w = true := by decide +kernel
theorem at_X8_UOE : ∀ w ∈ vx_at0 "CableTrayPlanner$Deed" 45 "java/lang/UnsupportedOperationException" ["java/lang/RuntimeException", "java/lang/Exception"], OKw w := okw_of _ [96, 408, 417, 429, 432, 434, 409, 410, 147, 148, 411, 416, 430, 594, 398, 595, 400, 596, 402, 412, 414, 404, 2136, 2137, 2138, 1142, 389, 1142, 1143, 1144, 1145, 391, 1145, 1146, 1147, 409, 393, 2135, 2127, 2128, 2129, 427, 2130, 2131, 2132, 2133, 592, 406, 2134] (by decide +kernel) (by decide +kernel)
theorem gd_X8_UOE : ∀ w ∈ Cond.classLink "CableTrayPlanner$Deed" 43 "java/lang/UnsupportedOperationException" :: Cond.initialized "java/lang/UnsupportedOperationException" :: vx_at0 "CableTrayPlanner$Deed" 45 "java/lang/UnsupportedOperationException" ["java/lang/RuntimeException", "java/lang/Exception"], vx_ot w = true := by decide +kernel
section Chk
variable {G : Gl} {d : Nat} {Qr : Option AV → AH → Prop} {Qx : String → Nat → AH → Prop} {H : AH}
theorem s_checkArgument {b : Bool} (hd : 6 ≤ d) (hQ : b = true → Qr none H) (hX : b = false → ∀ q, Qx "java/lang/IllegalArgumentException" q H) : AMet G d 1 6 yX1_checkArgument wX1_checkArgument H [vI (bI b)] Qr Qx := by
  refine AMet.of (M := mX1_checkArgument) (maxL := 1) (by first | rfl | decide +kernel) rfl (Nat.le_of_ble_eq_true rfl) ?_
  show AW mX1_checkArgument _ _ _ _ _ _ _ 0 [some (vI (bI b))] []
  refine r_iload_n (i := 0) dX1_checkArgument_0 rfl rfl ?_
  refine r_if_ne (tgt := 12) dX1_checkArgument_1 (by decide) (fun h1 => ?_) (fun h1 => ?_)
  · refine r_return dX1_checkArgument_12 rfl ?_
    exact hQ (bI_ne0 h1)
  · refine r_throw1 (names := ["java/lang/RuntimeException", "java/lang/Exception"]) (ik := 1) (ic := 3) (by decide) (by decide) q1600 q99 at_X1_IAE gd_X1_IAE dX1_checkArgument_4 dX1_checkArgument_7 dX1_checkArgument_8 dX1_checkArgument_11 (by decide) (by show 2 + 4 ≤ d; omega) (by decide) (by decide) (by decide) (hX (bI_eq0.mp h1))
theorem s_checkIndex {b : Bool} (hd : 6 ≤ d) (hQ : b = true → Qr none H) (hX : b = false → ∀ q, Qx "java/lang/IndexOutOfBoundsException" q H) : AMet G d 1 6 yX1_checkIndex wX1_checkIndex H [vI (bI b)] Qr Qx := by
  refine AMet.of (M := mX1_checkIndex) (maxL := 1) (by first | rfl | decide +kernel) rfl (Nat.le_of_ble_eq_true rfl) ?_
  show AW mX1_checkIndex _ _ _ _ _ _ _ 0 [some (vI (bI b))] []
  refine r_iload_n (i := 0) dX1_checkIndex_0 rfl rfl ?_
  refine r_if_ne (tgt := 12) dX1_checkIndex_1 (by decide) (fun h1 => ?_) (fun h1 => ?_)
  · refine r_return dX1_checkIndex_12 rfl ?_
    exact hQ (bI_ne0 h1)
  · refine r_throw1 (names := ["java/lang/RuntimeException", "java/lang/Exception"]) (ik := 7) (ic := 9) (by decide) (by decide) q1707 q122 at_X1_IOE gd_X1_IOE dX1_checkIndex_4 dX1_checkIndex_7 dX1_checkIndex_8 dX1_checkIndex_11 (by decide) (by show 2 + 4 ≤ d; omega) (by decide) (by decide) (by decide) (hX (bI_eq0.mp h1))
theorem s_checkState {b : Bool} (hd : 6 ≤ d) (hQ : b = true → Qr none H) (hX : b = false → ∀ q, Qx "java/lang/IllegalStateException" q H) : AMet G d 1 6 yX1_checkState wX1_checkState H [vI (bI b)] Qr Qx := by
  refine AMet.of (M := mX1_checkState) (maxL := 1) (by first | rfl | decide +kernel) rfl (Nat.le_of_ble_eq_true rfl) ?_
  show AW mX1_checkState _ _ _ _ _ _ _ 0 [some (vI (bI b))] []
  refine r_iload_n (i := 0) dX1_checkState_0 rfl rfl ?_
  refine r_if_ne (tgt := 12) dX1_checkState_1 (by decide) (fun h1 => ?_) (fun h1 => ?_)
  · refine r_return dX1_checkState_12 rfl ?_
    exact hQ (bI_ne0 h1)
  · refine r_throw1 (names := ["java/lang/RuntimeException", "java/lang/Exception"]) (ik := 10) (ic := 12) (by decide) (by decide) q1731 q121 at_X1_ISE gd_X1_ISE dX1_checkState_4 dX1_checkState_7 dX1_checkState_8 dX1_checkState_11 (by decide) (by show 2 + 4 ≤ d; omega) (by decide) (by decide) (by decide) (hX (bI_eq0.mp h1))
theorem s_checkElement {b : Bool} (hd : 6 ≤ d) (hQ : b = true → Qr none H) (hX : b = false → ∀ q, Qx "java/util/NoSuchElementException" q H) : AMet G d 1 6 yX1_checkElement wX1_checkElement H [vI (bI b)] Qr Qx := by
  refine AMet.of (M := mX1_checkElement) (maxL := 1) (by first | rfl | decide +kernel) rfl (Nat.le_of_ble_eq_true rfl) ?_
  show AW mX1_checkElement _ _ _ _ _ _ _ 0 [some (vI (bI b))] []
  refine r_iload_n (i := 0) dX1_checkElement_0 rfl rfl ?_
  refine r_if_ne (tgt := 12) dX1_checkElement_1 (by decide) (fun h1 => ?_) (fun h1 => ?_)
  · refine r_return dX1_checkElement_12 rfl ?_
    exact hQ (bI_ne0 h1)
  · refine r_throw1 (names := ["java/lang/RuntimeException", "java/lang/Exception"]) (ik := 13) (ic := 15) (by decide) (by decide) q1129 q101 at_X1_NSE gd_X1_NSE dX1_checkElement_4 dX1_checkElement_7 dX1_checkElement_8 dX1_checkElement_11 (by decide) (by show 2 + 4 ≤ d; omega) (by decide) (by decide) (by decide) (hX (bI_eq0.mp h1))
theorem s_checkNumbers {b : Bool} (hd : 6 ≤ d) (hQ : b = true → Qr none H) (hX : b = false → ∀ q, Qx "java/lang/ArithmeticException" q H) : AMet G d 1 6 yX1_checkNumbers wX1_checkNumbers H [vI (bI b)] Qr Qx := by
  refine AMet.of (M := mX1_checkNumbers) (maxL := 1) (by first | rfl | decide +kernel) rfl (Nat.le_of_ble_eq_true rfl) ?_
  show AW mX1_checkNumbers _ _ _ _ _ _ _ 0 [some (vI (bI b))] []
  refine r_iload_n (i := 0) dX1_checkNumbers_0 rfl rfl ?_
  refine r_if_ne (tgt := 12) dX1_checkNumbers_1 (by decide) (fun h1 => ?_) (fun h1 => ?_)
  · refine r_return dX1_checkNumbers_12 rfl ?_
    exact hQ (bI_ne0 h1)
  · refine r_throw1 (names := ["java/lang/RuntimeException", "java/lang/Exception"]) (ik := 16) (ic := 18) (by decide) (by decide) q2446 q135 at_X1_ARE gd_X1_ARE dX1_checkNumbers_4 dX1_checkNumbers_7 dX1_checkNumbers_8 dX1_checkNumbers_11 (by decide) (by show 2 + 4 ≤ d; omega) (by decide) (by decide) (by decide) (hX (bI_eq0.mp h1))
theorem s_inRange {v a b : Int32} {lo hi : Int64} (h1 : lo = a.toInt64) (h2 : hi = b.toInt64) (hQ : Qr (some (vI (bI (inB v a b)))) H) : AMet G d 0 0 yX1_inRange wX1_inRange H [vL v.toInt64, vL lo, vL hi] Qr Qx := by
  have le64 : ∀ x y : Int32, x.toInt64 ≤ y.toInt64 ↔ x ≤ y := fun x y => by rw [Int64.le_iff_toInt_le, Int32.toInt_toInt64, Int32.toInt_toInt64, Int32.le_iff_toInt_le]
  have lt64 : ∀ x y : Int32, x.toInt64 < y.toInt64 ↔ x < y := fun x y => by rw [Int64.lt_iff_toInt_lt, Int32.toInt_toInt64, Int32.toInt_toInt64, Int32.lt_iff_toInt_lt]
  subst h1 h2
  refine AMet.of (M := mX1_inRange) (maxL := 6) (by first | rfl | decide +kernel) rfl (Nat.le_of_ble_eq_true rfl) ?_
  show AW mX1_inRange _ _ _ _ _ _ _ 0 [some (vL v.toInt64), none, some (vL a.toInt64), none, some (vL b.toInt64), none] []
  refine r_lload_n (i := 0) dX1_inRange_0 rfl rfl ?_
  refine r_lload_n (i := 2) dX1_inRange_1 rfl rfl ?_
  refine r_lcmp dX1_inRange_2 ?_
  refine r_if_lt (tgt := 17) dX1_inRange_3 (by decide) (fun h3 => ?_) (fun h3 => ?_)
  · have hf : inB v a b = false := by
      refine decide_eq_false (fun q => ?_)
      have h := (le64 a v).mpr q.1
      rw [← lg_cmp_ge] at h
      exact absurd h3 (Int32.not_lt.mpr h)
    rw [hf] at hQ
    refine r_iconst (v := nI 0) dX1_inRange_17 (by decide) ?_
    refine r_ireturn dX1_inRange_18 rfl (by first | rfl | assumption | exact vp_nar_int _ | exact pk_nc _) ?_
    exact hQ
  · have ha : a ≤ v := (le64 a v).mp ((lg_cmp_ge _ _).mp (Int32.not_lt.mp h3))
    refine r_lload_n (i := 0) dX1_inRange_6 rfl rfl ?_
    refine r_lload dX1_inRange_7 rfl ?_
    refine r_lcmp dX1_inRange_9 ?_
    refine r_if_gt (tgt := 17) dX1_inRange_10 (by decide) (fun h10 => ?_) (fun h10 => ?_)
    · have hf : inB v a b = false := by
        refine decide_eq_false (fun q => ?_)
        have h := (le64 v b).mpr q.2
        rw [← lg_cmp_le] at h
        exact absurd h10 (Int32.not_lt.mpr h)
      rw [hf] at hQ
      refine r_iconst (v := nI 0) dX1_inRange_17 (by decide) ?_
      refine r_ireturn dX1_inRange_18 rfl (by first | rfl | assumption | exact vp_nar_int _ | exact pk_nc _) ?_
      exact hQ
    · have hb : v ≤ b := (le64 v b).mp ((lg_cmp_le _ _).mp (Int32.not_lt.mp h10))
      have ht : inB v a b = true := decide_eq_true ⟨ha, hb⟩
      rw [ht] at hQ
      refine r_iconst (v := nI 1) dX1_inRange_13 (by decide) ?_
      refine r_goto (tgt := 18) dX1_inRange_14 (by decide) ?_
      refine r_ireturn dX1_inRange_18 rfl (by first | rfl | assumption | exact vp_nar_int _ | exact pk_nc _) ?_
      exact hQ
theorem s_checkPlace {v : Int32} (hd : 7 ≤ d) (hQ : inB v (nI 0) (nI 7) = true → Qr none H) (hX : inB v (nI 0) (nI 7) = false → ∀ q, Qx "java/lang/IndexOutOfBoundsException" q H) : AMet G d 1 6 yX1_checkPlace wX1_checkPlace H [vI v] Qr Qx := by
  refine AMet.of (M := mX1_checkPlace) (maxL := 1) (by first | rfl | decide +kernel) rfl (Nat.le_of_ble_eq_true rfl) ?_
  show AW mX1_checkPlace _ _ _ _ _ _ _ 0 [some (vI v)] []
  refine r_iload_n (i := 0) dX1_checkPlace_0 rfl rfl ?_
  refine r_i2l dX1_checkPlace_1 ?_
  refine r_lconst dX1_checkPlace_2 rfl ?_
  refine r_ldc2 dX1_checkPlace_3 q1703 ?_
  refine r_callS (As := [_, _, _]) (mc' := 0) (ms' := 0) dX1_checkPlace_6 k_X1_23 rfl (by first | assumption | omega) (by first | assumption | omega) (by first | assumption | omega) (Nat.le_of_ble_eq_true rfl) ?_
  refine s_inRange (a := nI 0) (b := nI 7) (by decide) (by decide) ?_
  show AW mX1_checkPlace G d Qr Qx _ _ _ 9 _ _
  refine r_callS (As := [_]) (mc' := 1) (ms' := 6) dX1_checkPlace_9 k_X1_27 rfl (by first | assumption | omega) (by first | assumption | omega) (by first | assumption | omega) (Nat.le_of_ble_eq_true rfl) ?_
  refine s_checkIndex (by omega) (fun h => ?_) (fun h q => ?_)
  · show AW mX1_checkPlace G d Qr Qx _ _ _ 12 _ _
    refine r_return dX1_checkPlace_12 rfl ?_
    exact hQ h
  · exact x_out (by decide) (hX h q)
end Chk
