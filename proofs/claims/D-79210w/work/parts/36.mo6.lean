set_option maxRecDepth 100000
theorem inB_t {v : Int32} {g : Nat → Int32} {i b : Nat} (h : inB v (nI 0) (g i - nI 1) = true) (hi : isN g i b) (hb : b < 65536) : ∃ j, j < nat g i ∧ v = nI j ∧ v.toNatClampNeg = j := by
  unfold inB at h
  rw [decide_eq_true_iff] at h
  obtain ⟨h1, h2⟩ := h
  rw [hi.1] at h2
  have hi2 := hi.2
  obtain ⟨j, hj, rfl⟩ := nI_of (x := v) (Int32.not_lt.mpr h1)
  rcases Nat.eq_zero_or_pos (nat g i) with q | q
  · rw [q] at h2
    exfalso
    rw [show nI 0 - nI 1 = -1 by decide] at h2
    exact absurd (Int32.le_trans h1 h2) (by decide)
  · rw [pk_sub (by omega)] at h2
    rw [nI_leI hj (by omega)] at h2
    exact ⟨j, by omega, rfl, nI_clamp hj⟩
theorem inB_c {v : Int32} {n : Nat} (h : inB v (nI 0) (nI n) = true) (hn : n < 65536) : ∃ j, j ≤ n ∧ v = nI j ∧ v.toNatClampNeg = j := by
  unfold inB at h
  rw [decide_eq_true_iff] at h
  obtain ⟨j, hj, rfl⟩ := nI_of (x := v) (Int32.not_lt.mpr h.1)
  have := (nI_leI hj (by omega)).mp h.2
  exact ⟨j, this, rfl, nI_clamp hj⟩
theorem bI_eq0 {b : Bool} : bI b = 0 ↔ b = false := by cases b <;> decide
def q_free (g : Nat → Int32) (t : Nat) : Int32 := sumN (fun k => if q_class g (nI t) (nI k) < 0 then nI 1 else nI 0) (nat g (45 + 5 * t))
/-- how many cables are in the tray: the bits of q_set, as a number -/
def q_setN (g : Nat → Int32) (t : Int32) : Nat := ((List.range (nat g 101)).map (fun c => if (q_step g c t).isSome then 2 ^ c else 0)).sum
theorem sumB_lt (f : Nat → Bool) (n : Nat) : ((List.range n).map (fun c => if f c then 2 ^ c else 0)).sum < 2 ^ n := by
  induction n with
  | zero => show (0 : Nat) < 1; omega
  | succ n ih =>
    rw [List.range_succ, List.map_append, List.sum_append, Nat.pow_succ]
    simp only [List.map_cons, List.map_nil, List.sum_cons, List.sum_nil, Nat.add_zero]
    split <;> omega
theorem nx_or (a b : Nat) : nI a ||| nI b = nI (a ||| b) := by
  apply Int32.toBitVec_inj.1
  show BitVec.ofNat 32 a ||| BitVec.ofNat 32 b = BitVec.ofNat 32 (a ||| b)
  apply BitVec.eq_of_getLsbD_eq
  intro i hi
  simp [hi]
theorem sh1 : ∀ c, c < 31 → (nI 1 <<< (nI c &&& 31)) = nI (2 ^ c) := by decide +kernel
theorem orN_sum (f : Nat → Bool) (n : Nat) (hn : n ≤ 30) : orN (fun c => if f c then nI 1 <<< (nI c &&& 31) else nI 0) n = nI ((List.range n).map (fun c => if f c then 2 ^ c else 0)).sum := by
  induction n with
  | zero => rfl
  | succ n ih =>
    have hlt := sumB_lt f n
    rw [orN, ih (by omega), List.range_succ, List.map_append, List.sum_append]
    simp only [List.map_cons, List.map_nil, List.sum_cons, List.sum_nil, Nat.add_zero]
    split
    · have h9 := Nat.two_pow_add_eq_or_of_lt hlt 1
      rw [Nat.mul_one] at h9
      rw [sh1 n (by omega), nx_or, Nat.or_comm, ← h9, Nat.add_comm]
    · rw [nx_or, Nat.or_zero, Nat.add_zero]
theorem q_set_N {g : Nat → Int32} (hB : GB g) (t : Int32) : q_set g t = nI (q_setN g t) ∧ q_setN g t < 65536 := by
  have hC := hB.2.2.1.2
  refine ⟨orN_sum _ _ (by omega), Nat.lt_of_lt_of_le (sumB_lt _ _) ?_⟩
  exact Nat.le_trans (Nat.pow_le_pow_right (by decide) (show nat g 101 ≤ 12 by omega)) (by decide)
def trayVal (g : Nat → Int32) (t : Nat) (w : Nat) : Int32 := if w = 5 then q_room g t else if w = 6 then q_kept g t else if w = 7 then q_areas g t else if w = 8 then nI (popN (q_setN g (nI t))) else if w = 9 then q_free g t else g (41 + 5 * t + w)
def isT (g : Nat → Int32) (t : Int32) : Bool := inB t (nI 0) (g 40 - nI 1)
def isY (g : Nat → Int32) (t : Int32) : Bool := inB t (nI 0) (g 3 - nI 1)
def isC (g : Nat → Int32) (t : Int32) : Bool := inB t (nI 0) (g 101 - nI 1)
def isD (g : Nat → Int32) (t : Int32) : Bool := inB t (nI 0) (g 354 - nI 1)
def p_tray (g : Nat → Int32) (t w : Int32) : Nat × Int32 := if isT g t then (if inB w (nI 0) (nI 9) then (0, trayVal g t.toNatClampNeg w.toNatClampNeg) else (2, nI 0)) else (1, nI 0)
def p_fits (g : Nat → Int32) (t ty : Int32) : Nat × Bool := if isT g t && isY g ty then (0, (q_place g t.toNatClampNeg ty.toNatClampNeg).isSome) else (1, false)
def p_comp (g : Nat → Int32) (t k : Int32) (b : Bool) : Nat × Int32 := if isT g t then (if inB k (nI 0) (g (45 + 5 * t.toNatClampNeg) - nI 1) then (0, if b then q_area g t k else q_class g t k) else (2, nI 0)) else (1, nI 0)
def p_cabs (g : Nat → Int32) (t : Int32) : Nat × Int32 := if isT g t then (0, q_set g t) else (1, nI 0)
def fullF (g : Nat → Int32) : Nat → Nat → Nat → Nat
  | 0, _, b => b
  | k + 1, t, b => fullF g k (t + 1) (if q_areas g b * g (44 + 5 * t) < q_areas g t * g (44 + 5 * b) then t else b)
def p_full (g : Nat → Int32) : Nat × Int32 := (if nat g 40 = 0 then 1 else 0, nI (fullF g (nat g 40 - 1) 1 0))
def fillV (g : Nat → Int32) (t : Nat) : UInt32 := FP.fdiv (FP.i2f (q_areas g t)) (FP.i2f (g (44 + 5 * t)))
section Mo6
variable {G : Gl} {d m : Nat} {ma : Nat → Nat} {Qr : Option AV → AH → Prop} {Qx : String → Nat → AH → Prop} {H : AH}
theorem s_fits {t ty : Int32} (hd : 5 ≤ d) (hM : MO H m ma) (hB : GB (gA H 1068 (ma 68))) (hQ : Qr (some (vI (bI (p_fits (gA H 1068 (ma 68)) t ty).2))) (sI H 77 m (nI (p_fits (gA H 1068 (ma 68)) t ty).1))) : AMet G d 0 0 yX3_fits wX3_fits H [vR (some m), vI t, vI ty] Qr Qx := by
  have e0 := hM.1
  unfold p_fits at hQ
  have bad : (isT (gA H 1068 (ma 68)) t && isY (gA H 1068 (ma 68)) ty) = false → AW mX3_fits G d Qr Qx 0 0 H 21 [some (vR (some m)), some (vI t), some (vI ty)] [vR (some m)] := by
    intro hf
    rw [if_neg (by rw [hf]; decide)] at hQ
    refine r_iconst (v := nI 1) dX3_fits_21 (by decide) ?_
    refine r_putI dX3_fits_22 fG_X3_66 (fun _ => by first | rfl | contradiction) (by first | assumption | (simp only [kd_sI, kd_sR, kd_sA, kd_sQ, kd_sL, kd_sD, ln_sI, ln_sR, ln_sA, ln_sQ, ln_sL, ln_sD, gI_sR, gI_sA, gI_sQ, gI_sL, gI_sD, gR_sI, gR_sA, gR_sQ, gR_sL, gR_sD, gA_sI, gA_sR, gA_sQ, gA_sL, gA_sD, gQ_sI, gQ_sR, gQ_sA, gQ_sL, gQ_sD, gL_sI, gL_sR, gL_sA, gL_sQ, gL_sD]; assumption) | simp [kd_sI, kd_sR, kd_sA, kd_sQ, kd_sL, kd_sD, ln_sI, ln_sR, ln_sA, ln_sQ, ln_sL, ln_sD, gI_sR, gI_sA, gI_sQ, gI_sL, gI_sD, gR_sI, gR_sA, gR_sQ, gR_sL, gR_sD, gA_sI, gA_sR, gA_sQ, gA_sL, gA_sD, gQ_sI, gQ_sR, gQ_sA, gQ_sL, gQ_sD, gL_sI, gL_sR, gL_sA, gL_sQ, gL_sD, kd_nO, kd_nA, *]) (by first | rfl | assumption) (by first | rfl | assumption) ?_
    refine r_aload_n (i := 0) dX3_fits_25 rfl rfl ?_
    refine r_getI dX3_fits_26 fR_X3_66 (by first | assumption | (simp only [kd_sI, kd_sR, kd_sA, kd_sQ, kd_sL, kd_sD, ln_sI, ln_sR, ln_sA, ln_sQ, ln_sL, ln_sD, gI_sR, gI_sA, gI_sQ, gI_sL, gI_sD, gR_sI, gR_sA, gR_sQ, gR_sL, gR_sD, gA_sI, gA_sR, gA_sQ, gA_sL, gA_sD, gQ_sI, gQ_sR, gQ_sA, gQ_sL, gQ_sD, gL_sI, gL_sR, gL_sA, gL_sQ, gL_sD]; assumption) | simp [kd_sI, kd_sR, kd_sA, kd_sQ, kd_sL, kd_sD, ln_sI, ln_sR, ln_sA, ln_sQ, ln_sL, ln_sD, gI_sR, gI_sA, gI_sQ, gI_sL, gI_sD, gR_sI, gR_sA, gR_sQ, gR_sL, gR_sD, gA_sI, gA_sR, gA_sQ, gA_sL, gA_sD, gQ_sI, gQ_sR, gQ_sA, gQ_sL, gQ_sD, gL_sI, gL_sR, gL_sA, gL_sQ, gL_sD, kd_nO, kd_nA, *]) (by first | assumption | exact gI_sIs | exact gR_sRs | with_reducible rfl | (simp only [kd_sI, kd_sR, kd_sA, kd_sQ, kd_sL, kd_sD, ln_sI, ln_sR, ln_sA, ln_sQ, ln_sL, ln_sD, gI_sR, gI_sA, gI_sQ, gI_sL, gI_sD, gR_sI, gR_sA, gR_sQ, gR_sL, gR_sD, gA_sI, gA_sR, gA_sQ, gA_sL, gA_sD, gQ_sI, gQ_sR, gQ_sA, gQ_sL, gQ_sD, gL_sI, gL_sR, gL_sA, gL_sQ, gL_sD]; first | done | assumption | with_reducible rfl) | rfl) ?_
    refine r_if_ne (tgt := 45) dX3_fits_29 (by decide) (fun h29 => ?_) (fun h29 => ?_)
    · refine r_iconst (v := nI 0) dX3_fits_45 (by decide) ?_
      refine r_ireturn dX3_fits_46 rfl (by first | rfl | assumption | exact vp_nar_int _) ?_
      exact hQ
    · exact absurd h29 (by decide)
  refine AMet.of (M := mX3_fits) (maxL := 3) rfl rfl (Nat.le_of_ble_eq_true rfl) ?_
  show AW mX3_fits _ _ _ _ _ _ _ 0 [some (vR (some m)), some (vI t), some (vI ty)] []
  refine r_aload_n (i := 0) dX3_fits_0 rfl rfl ?_
  refine r_aload_n (i := 0) dX3_fits_1 rfl rfl ?_
  refine r_iload_n (i := 1) dX3_fits_2 rfl rfl ?_
  refine r_callV (As := [_]) (mc' := 0) (ms' := 0) dX3_fits_3 k_X3_111 rfl (by first | assumption | (simp only [kd_sI, kd_sR, kd_sA, kd_sQ, kd_sL, kd_sD, ln_sI, ln_sR, ln_sA, ln_sQ, ln_sL, ln_sD, gI_sR, gI_sA, gI_sQ, gI_sL, gI_sD, gR_sI, gR_sA, gR_sQ, gR_sL, gR_sD, gA_sI, gA_sR, gA_sQ, gA_sL, gA_sD, gQ_sI, gQ_sR, gQ_sA, gQ_sL, gQ_sD, gL_sI, gL_sR, gL_sA, gL_sQ, gL_sD]; assumption) | simp [kd_sI, kd_sR, kd_sA, kd_sQ, kd_sL, kd_sD, ln_sI, ln_sR, ln_sA, ln_sQ, ln_sL, ln_sD, gI_sR, gI_sA, gI_sQ, gI_sL, gI_sD, gR_sI, gR_sA, gR_sQ, gR_sL, gR_sD, gA_sI, gA_sR, gA_sQ, gA_sL, gA_sD, gQ_sI, gQ_sR, gQ_sA, gQ_sL, gQ_sD, gL_sI, gL_sR, gL_sA, gL_sQ, gL_sD, kd_nO, kd_nA, *]) (T := TX3) (N := 27) rfl (by first | assumption | omega) (by first | assumption | omega) (by first | assumption | omega) (Nat.le_of_ble_eq_true rfl) ?_
  refine s_isTray (by omega) hM ?_
  refine r_if_eq (tgt := 21) dX3_fits_6 (by decide) (fun h6 => ?_) (fun h6 => ?_)
  · exact bad (by rw [show isT (gA H 1068 (ma 68)) t = false from bI_eq0.mp h6]; rfl)
  · have ht : isT (gA H 1068 (ma 68)) t = true := by
      cases hq : isT (gA H 1068 (ma 68)) t
      · exact absurd (bI_eq0.mpr hq) h6
      · rfl
    refine r_aload_n (i := 0) dX3_fits_9 rfl rfl ?_
    refine r_iload_n (i := 2) dX3_fits_10 rfl rfl ?_
    refine r_callV (As := [_]) (mc' := 0) (ms' := 0) dX3_fits_11 k_X3_118 rfl (by first | assumption | (simp only [kd_sI, kd_sR, kd_sA, kd_sQ, kd_sL, kd_sD, ln_sI, ln_sR, ln_sA, ln_sQ, ln_sL, ln_sD, gI_sR, gI_sA, gI_sQ, gI_sL, gI_sD, gR_sI, gR_sA, gR_sQ, gR_sL, gR_sD, gA_sI, gA_sR, gA_sQ, gA_sL, gA_sD, gQ_sI, gQ_sR, gQ_sA, gQ_sL, gQ_sD, gL_sI, gL_sR, gL_sA, gL_sQ, gL_sD]; assumption) | simp [kd_sI, kd_sR, kd_sA, kd_sQ, kd_sL, kd_sD, ln_sI, ln_sR, ln_sA, ln_sQ, ln_sL, ln_sD, gI_sR, gI_sA, gI_sQ, gI_sL, gI_sD, gR_sI, gR_sA, gR_sQ, gR_sL, gR_sD, gA_sI, gA_sR, gA_sQ, gA_sL, gA_sD, gQ_sI, gQ_sR, gQ_sA, gQ_sL, gQ_sD, gL_sI, gL_sR, gL_sA, gL_sQ, gL_sD, kd_nO, kd_nA, *]) (T := TX3) (N := 27) rfl (by first | assumption | omega) (by first | assumption | omega) (by first | assumption | omega) (Nat.le_of_ble_eq_true rfl) ?_
    refine s_isType (by omega) hM ?_
    refine r_if_eq (tgt := 21) dX3_fits_14 (by decide) (fun h14 => ?_) (fun h14 => ?_)
    · exact bad (by rw [show isY (gA H 1068 (ma 68)) ty = false from bI_eq0.mp h14]; simp)
    · have hy : isY (gA H 1068 (ma 68)) ty = true := by
        cases hq : isY (gA H 1068 (ma 68)) ty
        · exact absurd (bI_eq0.mpr hq) h14
        · rfl
      obtain ⟨j, hj, rfl, ej⟩ := inB_t ht hB.2.1 (by decide)
      obtain ⟨y, hy1, rfl, ey⟩ := inB_t hy hB.1 (by have := hB.1.2; decide)
      rw [ht, hy, if_pos (by decide), ej, ey] at hQ
      refine r_iconst (v := nI 0) dX3_fits_17 (by decide) ?_
      refine r_goto (tgt := 22) dX3_fits_18 (by decide) ?_
      refine r_putI dX3_fits_22 fG_X3_66 (fun _ => by first | rfl | contradiction) (by first | assumption | (simp only [kd_sI, kd_sR, kd_sA, kd_sQ, kd_sL, kd_sD, ln_sI, ln_sR, ln_sA, ln_sQ, ln_sL, ln_sD, gI_sR, gI_sA, gI_sQ, gI_sL, gI_sD, gR_sI, gR_sA, gR_sQ, gR_sL, gR_sD, gA_sI, gA_sR, gA_sQ, gA_sL, gA_sD, gQ_sI, gQ_sR, gQ_sA, gQ_sL, gQ_sD, gL_sI, gL_sR, gL_sA, gL_sQ, gL_sD]; assumption) | simp [kd_sI, kd_sR, kd_sA, kd_sQ, kd_sL, kd_sD, ln_sI, ln_sR, ln_sA, ln_sQ, ln_sL, ln_sD, gI_sR, gI_sA, gI_sQ, gI_sL, gI_sD, gR_sI, gR_sA, gR_sQ, gR_sL, gR_sD, gA_sI, gA_sR, gA_sQ, gA_sL, gA_sD, gQ_sI, gQ_sR, gQ_sA, gQ_sL, gQ_sD, gL_sI, gL_sR, gL_sA, gL_sQ, gL_sD, kd_nO, kd_nA, *]) (by first | rfl | assumption) (by first | rfl | assumption) ?_
      refine r_aload_n (i := 0) dX3_fits_25 rfl rfl ?_
      refine r_getI dX3_fits_26 fR_X3_66 (by first | assumption | (simp only [kd_sI, kd_sR, kd_sA, kd_sQ, kd_sL, kd_sD, ln_sI, ln_sR, ln_sA, ln_sQ, ln_sL, ln_sD, gI_sR, gI_sA, gI_sQ, gI_sL, gI_sD, gR_sI, gR_sA, gR_sQ, gR_sL, gR_sD, gA_sI, gA_sR, gA_sQ, gA_sL, gA_sD, gQ_sI, gQ_sR, gQ_sA, gQ_sL, gQ_sD, gL_sI, gL_sR, gL_sA, gL_sQ, gL_sD]; assumption) | simp [kd_sI, kd_sR, kd_sA, kd_sQ, kd_sL, kd_sD, ln_sI, ln_sR, ln_sA, ln_sQ, ln_sL, ln_sD, gI_sR, gI_sA, gI_sQ, gI_sL, gI_sD, gR_sI, gR_sA, gR_sQ, gR_sL, gR_sD, gA_sI, gA_sR, gA_sQ, gA_sL, gA_sD, gQ_sI, gQ_sR, gQ_sA, gQ_sL, gQ_sD, gL_sI, gL_sR, gL_sA, gL_sQ, gL_sD, kd_nO, kd_nA, *]) (by first | assumption | exact gI_sIs | exact gR_sRs | with_reducible rfl | (simp only [kd_sI, kd_sR, kd_sA, kd_sQ, kd_sL, kd_sD, ln_sI, ln_sR, ln_sA, ln_sQ, ln_sL, ln_sD, gI_sR, gI_sA, gI_sQ, gI_sL, gI_sD, gR_sI, gR_sA, gR_sQ, gR_sL, gR_sD, gA_sI, gA_sR, gA_sQ, gA_sL, gA_sD, gQ_sI, gQ_sR, gQ_sA, gQ_sL, gQ_sD, gL_sI, gL_sR, gL_sA, gL_sQ, gL_sD]; first | done | assumption | with_reducible rfl) | rfl) ?_
      refine r_if_ne (tgt := 45) dX3_fits_29 (by decide) (fun h29 => ?_) (fun h29 => ?_)
      · exact absurd (by decide) h29
      · refine r_aload_n (i := 0) dX3_fits_32 rfl rfl ?_
        refine r_iload_n (i := 1) dX3_fits_33 rfl rfl ?_
        refine r_iload_n (i := 2) dX3_fits_34 rfl rfl ?_
        refine r_callV (As := [_, _]) (mc' := 0) (ms' := 0) dX3_fits_35 k_X3_142 rfl (by first | assumption | (simp only [kd_sI, kd_sR, kd_sA, kd_sQ, kd_sL, kd_sD, ln_sI, ln_sR, ln_sA, ln_sQ, ln_sL, ln_sD, gI_sR, gI_sA, gI_sQ, gI_sL, gI_sD, gR_sI, gR_sA, gR_sQ, gR_sL, gR_sD, gA_sI, gA_sR, gA_sQ, gA_sL, gA_sD, gQ_sI, gQ_sR, gQ_sA, gQ_sL, gQ_sD, gL_sI, gL_sR, gL_sA, gL_sQ, gL_sD]; assumption) | simp [kd_sI, kd_sR, kd_sA, kd_sQ, kd_sL, kd_sD, ln_sI, ln_sR, ln_sA, ln_sQ, ln_sL, ln_sD, gI_sR, gI_sA, gI_sQ, gI_sL, gI_sD, gR_sI, gR_sA, gR_sQ, gR_sL, gR_sD, gA_sI, gA_sR, gA_sQ, gA_sL, gA_sD, gQ_sI, gQ_sR, gQ_sA, gQ_sL, gQ_sD, gL_sI, gL_sR, gL_sA, gL_sQ, gL_sD, kd_nO, kd_nA, *]) (T := TX3) (N := 27) rfl (by first | assumption | omega) (by first | assumption | omega) (by first | assumption | omega) (Nat.le_of_ble_eq_true rfl) ?_
        refine s_placeIn (H := sI H 77 m (nI 0)) (by omega) (hM.mf (MF.sI (by decide) (by decide))) hB hj hy1 ?_
        cases hp : q_place (gA H 1068 (ma 68)) j y with
        | none =>
          rw [hp] at hQ
          rw [show q_place (gA (sI H 77 m (nI 0)) 1068 (ma 68)) j y = none from hp]
          refine r_if_lt (tgt := 45) dX3_fits_38 (by decide) (fun h38 => ?_) (fun h38 => ?_)
          · refine r_iconst (v := nI 0) dX3_fits_45 (by decide) ?_
            refine r_ireturn dX3_fits_46 rfl (by first | rfl | assumption | exact vp_nar_int _) ?_
            exact hQ
          · exact absurd oI_neg1 h38
        | some k =>
          rw [hp] at hQ
          rw [show q_place (gA (sI H 77 m (nI 0)) 1068 (ma 68)) j y = some k from hp]
          have hk : k < 4 := by
            unfold q_place at hp
            have hk := (hB.2.2.2.2.1 j hj).1.2
            cases h9 : find9 (fun k => q_class (gA H 1068 (ma 68)) (nI j) (nI k) == (gA H 1068 (ma 68)) (8 + 6 * y) && q_fit (gA H 1068 (ma 68)) j y k) 0 (nat (gA H 1068 (ma 68)) (45 + 5 * j)) with
            | some k9 => rw [h9] at hp; cases hp; have := (find9_lt h9).2.1; omega
            | none => rw [h9] at hp; have := (find9_lt hp).2.1; omega
          simp only [oI]
          refine r_if_lt (tgt := 45) dX3_fits_38 (by decide) (fun h38 => ?_) (fun h38 => ?_)
          · exact absurd h38 (nI_lt0 (by omega))
          · refine r_iconst (v := nI 1) dX3_fits_41 (by decide) ?_
            refine r_goto (tgt := 46) dX3_fits_42 (by decide) ?_
            refine r_ireturn dX3_fits_46 rfl (by first | rfl | assumption | exact vp_nar_int _) ?_
            exact hQ
theorem s_cablesIn {t : Int32} (hd : 4 ≤ d) (hM : MO H m ma) (hB : GB (gA H 1068 (ma 68))) (hQ : Qr (some (vI (p_cabs (gA H 1068 (ma 68)) t).2)) (sI H 77 m (nI (p_cabs (gA H 1068 (ma 68)) t).1))) : AMet G d 0 0 yX3_cablesIn wX3_cablesIn H [vR (some m), vI t] Qr Qx := by
  have e0 := hM.1
  unfold p_cabs at hQ
  refine AMet.of (M := mX3_cablesIn) (maxL := 2) rfl rfl (Nat.le_of_ble_eq_true rfl) ?_
  show AW mX3_cablesIn _ _ _ _ _ _ _ 0 [some (vR (some m)), some (vI t)] []
  refine r_aload_n (i := 0) dX3_cablesIn_0 rfl rfl ?_
  refine r_aload_n (i := 0) dX3_cablesIn_1 rfl rfl ?_
  refine r_iload_n (i := 1) dX3_cablesIn_2 rfl rfl ?_
  refine r_callV (As := [_]) (mc' := 0) (ms' := 0) dX3_cablesIn_3 k_X3_111 rfl (by first | assumption | (simp only [kd_sI, kd_sR, kd_sA, kd_sQ, kd_sL, kd_sD, ln_sI, ln_sR, ln_sA, ln_sQ, ln_sL, ln_sD, gI_sR, gI_sA, gI_sQ, gI_sL, gI_sD, gR_sI, gR_sA, gR_sQ, gR_sL, gR_sD, gA_sI, gA_sR, gA_sQ, gA_sL, gA_sD, gQ_sI, gQ_sR, gQ_sA, gQ_sL, gQ_sD, gL_sI, gL_sR, gL_sA, gL_sQ, gL_sD]; assumption) | simp [kd_sI, kd_sR, kd_sA, kd_sQ, kd_sL, kd_sD, ln_sI, ln_sR, ln_sA, ln_sQ, ln_sL, ln_sD, gI_sR, gI_sA, gI_sQ, gI_sL, gI_sD, gR_sI, gR_sA, gR_sQ, gR_sL, gR_sD, gA_sI, gA_sR, gA_sQ, gA_sL, gA_sD, gQ_sI, gQ_sR, gQ_sA, gQ_sL, gQ_sD, gL_sI, gL_sR, gL_sA, gL_sQ, gL_sD, kd_nO, kd_nA, *]) (T := TX3) (N := 27) rfl (by first | assumption | omega) (by first | assumption | omega) (by first | assumption | omega) (Nat.le_of_ble_eq_true rfl) ?_
  refine s_isTray (by omega) hM ?_
  cases ht : isT (gA H 1068 (ma 68)) t with
  | false =>
    rw [ht] at hQ
    rw [show inB t (nI 0) (gA H 1068 (ma 68) 40 - nI 1) = false from ht]
    refine r_if_eq (tgt := 13) dX3_cablesIn_6 (by decide) (fun h6 => ?_) (fun h6 => ?_)
    · refine r_iconst (v := nI 1) dX3_cablesIn_13 (by decide) ?_
      refine r_putI dX3_cablesIn_14 fG_X3_66 (fun _ => by first | rfl | contradiction) (by first | assumption | (simp only [kd_sI, kd_sR, kd_sA, kd_sQ, kd_sL, kd_sD, ln_sI, ln_sR, ln_sA, ln_sQ, ln_sL, ln_sD, gI_sR, gI_sA, gI_sQ, gI_sL, gI_sD, gR_sI, gR_sA, gR_sQ, gR_sL, gR_sD, gA_sI, gA_sR, gA_sQ, gA_sL, gA_sD, gQ_sI, gQ_sR, gQ_sA, gQ_sL, gQ_sD, gL_sI, gL_sR, gL_sA, gL_sQ, gL_sD]; assumption) | simp [kd_sI, kd_sR, kd_sA, kd_sQ, kd_sL, kd_sD, ln_sI, ln_sR, ln_sA, ln_sQ, ln_sL, ln_sD, gI_sR, gI_sA, gI_sQ, gI_sL, gI_sD, gR_sI, gR_sA, gR_sQ, gR_sL, gR_sD, gA_sI, gA_sR, gA_sQ, gA_sL, gA_sD, gQ_sI, gQ_sR, gQ_sA, gQ_sL, gQ_sD, gL_sI, gL_sR, gL_sA, gL_sQ, gL_sD, kd_nO, kd_nA, *]) (by first | rfl | assumption) (by first | rfl | assumption) ?_
      refine r_aload_n (i := 0) dX3_cablesIn_17 rfl rfl ?_
      refine r_getI dX3_cablesIn_18 fR_X3_66 (by first | assumption | (simp only [kd_sI, kd_sR, kd_sA, kd_sQ, kd_sL, kd_sD, ln_sI, ln_sR, ln_sA, ln_sQ, ln_sL, ln_sD, gI_sR, gI_sA, gI_sQ, gI_sL, gI_sD, gR_sI, gR_sA, gR_sQ, gR_sL, gR_sD, gA_sI, gA_sR, gA_sQ, gA_sL, gA_sD, gQ_sI, gQ_sR, gQ_sA, gQ_sL, gQ_sD, gL_sI, gL_sR, gL_sA, gL_sQ, gL_sD]; assumption) | simp [kd_sI, kd_sR, kd_sA, kd_sQ, kd_sL, kd_sD, ln_sI, ln_sR, ln_sA, ln_sQ, ln_sL, ln_sD, gI_sR, gI_sA, gI_sQ, gI_sL, gI_sD, gR_sI, gR_sA, gR_sQ, gR_sL, gR_sD, gA_sI, gA_sR, gA_sQ, gA_sL, gA_sD, gQ_sI, gQ_sR, gQ_sA, gQ_sL, gQ_sD, gL_sI, gL_sR, gL_sA, gL_sQ, gL_sD, kd_nO, kd_nA, *]) (by first | assumption | exact gI_sIs | exact gR_sRs | with_reducible rfl | (simp only [kd_sI, kd_sR, kd_sA, kd_sQ, kd_sL, kd_sD, ln_sI, ln_sR, ln_sA, ln_sQ, ln_sL, ln_sD, gI_sR, gI_sA, gI_sQ, gI_sL, gI_sD, gR_sI, gR_sA, gR_sQ, gR_sL, gR_sD, gA_sI, gA_sR, gA_sQ, gA_sL, gA_sD, gQ_sI, gQ_sR, gQ_sA, gQ_sL, gQ_sD, gL_sI, gL_sR, gL_sA, gL_sQ, gL_sD]; first | done | assumption | with_reducible rfl) | rfl) ?_
      refine r_if_le (tgt := 28) dX3_cablesIn_21 (by decide) (fun h21 => ?_) (fun h21 => ?_)
      · exact absurd h21 (by decide)
      · refine r_iconst (v := nI 0) dX3_cablesIn_24 (by decide) ?_
        refine r_goto (tgt := 33) dX3_cablesIn_25 (by decide) ?_
        refine r_ireturn dX3_cablesIn_33 rfl (by first | rfl | assumption | exact vp_nar_int _) ?_
        exact hQ
    · exact absurd rfl h6
  | true =>
    rw [ht] at hQ
    rw [show inB t (nI 0) (gA H 1068 (ma 68) 40 - nI 1) = true from ht]
    refine r_if_eq (tgt := 13) dX3_cablesIn_6 (by decide) (fun h6 => ?_) (fun h6 => ?_)
    · exact absurd h6 (by decide)
    · refine r_iconst (v := nI 0) dX3_cablesIn_9 (by decide) ?_
      refine r_goto (tgt := 14) dX3_cablesIn_10 (by decide) ?_
      refine r_putI dX3_cablesIn_14 fG_X3_66 (fun _ => by first | rfl | contradiction) (by first | assumption | (simp only [kd_sI, kd_sR, kd_sA, kd_sQ, kd_sL, kd_sD, ln_sI, ln_sR, ln_sA, ln_sQ, ln_sL, ln_sD, gI_sR, gI_sA, gI_sQ, gI_sL, gI_sD, gR_sI, gR_sA, gR_sQ, gR_sL, gR_sD, gA_sI, gA_sR, gA_sQ, gA_sL, gA_sD, gQ_sI, gQ_sR, gQ_sA, gQ_sL, gQ_sD, gL_sI, gL_sR, gL_sA, gL_sQ, gL_sD]; assumption) | simp [kd_sI, kd_sR, kd_sA, kd_sQ, kd_sL, kd_sD, ln_sI, ln_sR, ln_sA, ln_sQ, ln_sL, ln_sD, gI_sR, gI_sA, gI_sQ, gI_sL, gI_sD, gR_sI, gR_sA, gR_sQ, gR_sL, gR_sD, gA_sI, gA_sR, gA_sQ, gA_sL, gA_sD, gQ_sI, gQ_sR, gQ_sA, gQ_sL, gQ_sD, gL_sI, gL_sR, gL_sA, gL_sQ, gL_sD, kd_nO, kd_nA, *]) (by first | rfl | assumption) (by first | rfl | assumption) ?_
      refine r_aload_n (i := 0) dX3_cablesIn_17 rfl rfl ?_
      refine r_getI dX3_cablesIn_18 fR_X3_66 (by first | assumption | (simp only [kd_sI, kd_sR, kd_sA, kd_sQ, kd_sL, kd_sD, ln_sI, ln_sR, ln_sA, ln_sQ, ln_sL, ln_sD, gI_sR, gI_sA, gI_sQ, gI_sL, gI_sD, gR_sI, gR_sA, gR_sQ, gR_sL, gR_sD, gA_sI, gA_sR, gA_sQ, gA_sL, gA_sD, gQ_sI, gQ_sR, gQ_sA, gQ_sL, gQ_sD, gL_sI, gL_sR, gL_sA, gL_sQ, gL_sD]; assumption) | simp [kd_sI, kd_sR, kd_sA, kd_sQ, kd_sL, kd_sD, ln_sI, ln_sR, ln_sA, ln_sQ, ln_sL, ln_sD, gI_sR, gI_sA, gI_sQ, gI_sL, gI_sD, gR_sI, gR_sA, gR_sQ, gR_sL, gR_sD, gA_sI, gA_sR, gA_sQ, gA_sL, gA_sD, gQ_sI, gQ_sR, gQ_sA, gQ_sL, gQ_sD, gL_sI, gL_sR, gL_sA, gL_sQ, gL_sD, kd_nO, kd_nA, *]) (by first | assumption | exact gI_sIs | exact gR_sRs | with_reducible rfl | (simp only [kd_sI, kd_sR, kd_sA, kd_sQ, kd_sL, kd_sD, ln_sI, ln_sR, ln_sA, ln_sQ, ln_sL, ln_sD, gI_sR, gI_sA, gI_sQ, gI_sL, gI_sD, gR_sI, gR_sA, gR_sQ, gR_sL, gR_sD, gA_sI, gA_sR, gA_sQ, gA_sL, gA_sD, gQ_sI, gQ_sR, gQ_sA, gQ_sL, gQ_sD, gL_sI, gL_sR, gL_sA, gL_sQ, gL_sD]; first | done | assumption | with_reducible rfl) | rfl) ?_
      refine r_if_le (tgt := 28) dX3_cablesIn_21 (by decide) (fun h21 => ?_) (fun h21 => ?_)
      · refine r_aload_n (i := 0) dX3_cablesIn_28 rfl rfl ?_
        refine r_iload_n (i := 1) dX3_cablesIn_29 rfl rfl ?_
        refine r_callV (As := [_]) (mc' := 0) (ms' := 0) dX3_cablesIn_30 k_X3_114 rfl (by first | assumption | (simp only [kd_sI, kd_sR, kd_sA, kd_sQ, kd_sL, kd_sD, ln_sI, ln_sR, ln_sA, ln_sQ, ln_sL, ln_sD, gI_sR, gI_sA, gI_sQ, gI_sL, gI_sD, gR_sI, gR_sA, gR_sQ, gR_sL, gR_sD, gA_sI, gA_sR, gA_sQ, gA_sL, gA_sD, gQ_sI, gQ_sR, gQ_sA, gQ_sL, gQ_sD, gL_sI, gL_sR, gL_sA, gL_sQ, gL_sD]; assumption) | simp [kd_sI, kd_sR, kd_sA, kd_sQ, kd_sL, kd_sD, ln_sI, ln_sR, ln_sA, ln_sQ, ln_sL, ln_sD, gI_sR, gI_sA, gI_sQ, gI_sL, gI_sD, gR_sI, gR_sA, gR_sQ, gR_sL, gR_sD, gA_sI, gA_sR, gA_sQ, gA_sL, gA_sD, gQ_sI, gQ_sR, gQ_sA, gQ_sL, gQ_sD, gL_sI, gL_sR, gL_sA, gL_sQ, gL_sD, kd_nO, kd_nA, *]) (T := TX3) (N := 27) rfl (by first | assumption | omega) (by first | assumption | omega) (by first | assumption | omega) (Nat.le_of_ble_eq_true rfl) ?_
        refine s_setIn (H := sI H 77 m (nI 0)) (by omega) (hM.mf (MF.sI (by decide) (by decide))) hB ?_
        refine r_ireturn dX3_cablesIn_33 rfl (by first | rfl | assumption | exact vp_nar_int _) ?_
        exact hQ
      · exact absurd (by decide) h21
theorem s_fullest (hd : 5 ≤ d) (hM : MO H m ma) (hB : GB (gA H 1068 (ma 68))) (hQ : Qr (some (vI (p_full (gA H 1068 (ma 68))).2)) (sI H 77 m (nI (p_full (gA H 1068 (ma 68))).1))) : AMet G d 0 0 yX3_fullest wX3_fullest H [vR (some m)] Qr Qx := by
  have e0 := hM.1
  obtain ⟨e68a, e68b, e68c⟩ : gR H 68 m = some (ma 68) ∧ kd H (ma 68) = 1068 ∧ ln H (ma 68) = 385 := hM.2 68 (by decide)
  obtain ⟨hR1, hR2⟩ := hB.2.1
  unfold p_full at hQ
  obtain ⟨g, hg⟩ := ex_val (gA H 1068 (ma 68))
  rw [← hg] at hB hQ hR1 hR2
  obtain ⟨R, hR⟩ := ex_val (nat g 40)
  rw [← hR] at hR1 hR2 hQ
  have loop : ∀ (H1 : AH) (n t b : Nat), MO H1 m ma → gA H1 1068 (ma 68) = g → (t + n = R ∨ (n = 0 ∧ R ≤ t)) → t ≤ 13 → (b < R ∨ n = 0) → Qr (some (vI (nI (fullF g n t b)))) H1 → AW mX3_fullest G d Qr Qx 0 0 H1 23 [some (vR (some m)), some (vI (nI b)), some (vI (nI t))] [] := by
    intro H1 n
    induction n with
    | zero =>
      intro t b hM1 hg1 ht ht13 hb hq
      have e01 := hM1.1
      obtain ⟨e68a, e68b, e68c⟩ : gR H1 68 m = some (ma 68) ∧ kd H1 (ma 68) = 1068 ∧ ln H1 (ma 68) = 385 := hM1.2 68 (by decide)
      have g40 : gA H1 1068 (ma 68) 40 = nI R := by rw [hg1]; exact hR1
      rw [fullF] at hq
      refine r_iload_n (i := 2) dX3_fullest_23 rfl rfl ?_
      refine r_aload_n (i := 0) dX3_fullest_24 rfl rfl ?_
      refine r_getR dX3_fullest_25 fR_X3_7 (by first | assumption | (simp only [kd_sI, kd_sR, kd_sA, kd_sQ, kd_sL, kd_sD, ln_sI, ln_sR, ln_sA, ln_sQ, ln_sL, ln_sD, gI_sR, gI_sA, gI_sQ, gI_sL, gI_sD, gR_sI, gR_sA, gR_sQ, gR_sL, gR_sD, gA_sI, gA_sR, gA_sQ, gA_sL, gA_sD, gQ_sI, gQ_sR, gQ_sA, gQ_sL, gQ_sD, gL_sI, gL_sR, gL_sA, gL_sQ, gL_sD]; assumption) | simp [kd_sI, kd_sR, kd_sA, kd_sQ, kd_sL, kd_sD, ln_sI, ln_sR, ln_sA, ln_sQ, ln_sL, ln_sD, gI_sR, gI_sA, gI_sQ, gI_sL, gI_sD, gR_sI, gR_sA, gR_sQ, gR_sL, gR_sD, gA_sI, gA_sR, gA_sQ, gA_sL, gA_sD, gQ_sI, gQ_sR, gQ_sA, gQ_sL, gQ_sD, gL_sI, gL_sR, gL_sA, gL_sQ, gL_sD, kd_nO, kd_nA, *]) (by first | assumption | exact gI_sIs | exact gR_sRs | with_reducible rfl | (simp only [kd_sI, kd_sR, kd_sA, kd_sQ, kd_sL, kd_sD, ln_sI, ln_sR, ln_sA, ln_sQ, ln_sL, ln_sD, gI_sR, gI_sA, gI_sQ, gI_sL, gI_sD, gR_sI, gR_sA, gR_sQ, gR_sL, gR_sD, gA_sI, gA_sR, gA_sQ, gA_sL, gA_sD, gQ_sI, gQ_sR, gQ_sA, gQ_sL, gQ_sD, gL_sI, gL_sR, gL_sA, gL_sQ, gL_sD]; first | done | assumption | with_reducible rfl) | rfl) ?_
      refine r_bipush (v := nI 40) dX3_fullest_28 (by decide) ?_
      refine r_iald dX3_fullest_30 (by first | assumption | (simp only [kd_sI, kd_sR, kd_sA, kd_sQ, kd_sL, kd_sD, ln_sI, ln_sR, ln_sA, ln_sQ, ln_sL, ln_sD, gI_sR, gI_sA, gI_sQ, gI_sL, gI_sD, gR_sI, gR_sA, gR_sQ, gR_sL, gR_sD, gA_sI, gA_sR, gA_sQ, gA_sL, gA_sD, gQ_sI, gQ_sR, gQ_sA, gQ_sL, gQ_sD, gL_sI, gL_sR, gL_sA, gL_sQ, gL_sD]; assumption) | simp [kd_sI, kd_sR, kd_sA, kd_sQ, kd_sL, kd_sD, ln_sI, ln_sR, ln_sA, ln_sQ, ln_sL, ln_sD, gI_sR, gI_sA, gI_sQ, gI_sL, gI_sD, gR_sI, gR_sA, gR_sQ, gR_sL, gR_sD, gA_sI, gA_sR, gA_sQ, gA_sL, gA_sD, gQ_sI, gQ_sR, gQ_sA, gQ_sL, gQ_sD, gL_sI, gL_sR, gL_sA, gL_sQ, gL_sD, kd_nO, kd_nA, *]) (by decide) (by first | assumption | exact gI_sIs | exact gR_sRs | with_reducible rfl | (simp only [kd_sI, kd_sR, kd_sA, kd_sQ, kd_sL, kd_sD, ln_sI, ln_sR, ln_sA, ln_sQ, ln_sL, ln_sD, gI_sR, gI_sA, gI_sQ, gI_sL, gI_sD, gR_sI, gR_sA, gR_sQ, gR_sL, gR_sD, gA_sI, gA_sR, gA_sQ, gA_sL, gA_sD, gQ_sI, gQ_sR, gQ_sA, gQ_sL, gQ_sD, gL_sI, gL_sR, gL_sA, gL_sQ, gL_sD]; first | done | assumption | with_reducible rfl) | rfl) (by first | with_reducible rfl | assumption | (simp only [nI_add, pk_mul, nI_1]; with_reducible rfl)) (by first | assumption | omega) (by first | assumption | omega) (by first | assumption | exact gI_sIs | exact gR_sRs | with_reducible rfl | (simp only [kd_sI, kd_sR, kd_sA, kd_sQ, kd_sL, kd_sD, ln_sI, ln_sR, ln_sA, ln_sQ, ln_sL, ln_sD, gI_sR, gI_sA, gI_sQ, gI_sL, gI_sD, gR_sI, gR_sA, gR_sQ, gR_sL, gR_sD, gA_sI, gA_sR, gA_sQ, gA_sL, gA_sD, gQ_sI, gQ_sR, gQ_sA, gQ_sL, gQ_sD, gL_sI, gL_sR, gL_sA, gL_sQ, gL_sD]; first | done | assumption | with_reducible rfl) | rfl) ?_
      refine r_icmp_ge (tgt := 73) dX3_fullest_31 (by decide) (fun h31 => ?_) (fun h31 => ?_)
      · refine r_iload_n (i := 1) dX3_fullest_73 rfl rfl ?_
        refine r_ireturn dX3_fullest_74 rfl (by first | rfl | assumption | exact vp_nar_int _) ?_
        exact hq
      · exact absurd (nI_le (by omega) (by omega)) h31
    | succ n ih =>
      intro t b hM1 hg1 ht ht13 hb hq
      have e01 := hM1.1
      obtain ⟨e68a, e68b, e68c⟩ : gR H1 68 m = some (ma 68) ∧ kd H1 (ma 68) = 1068 ∧ ln H1 (ma 68) = 385 := hM1.2 68 (by decide)
      have g40 : gA H1 1068 (ma 68) 40 = nI R := by rw [hg1]; exact hR1
      have hB1 : GB (gA H1 1068 (ma 68)) := by rw [hg1]; exact hB
      rw [fullF] at hq
      refine r_iload_n (i := 2) dX3_fullest_23 rfl rfl ?_
      refine r_aload_n (i := 0) dX3_fullest_24 rfl rfl ?_
      refine r_getR dX3_fullest_25 fR_X3_7 (by first | assumption | (simp only [kd_sI, kd_sR, kd_sA, kd_sQ, kd_sL, kd_sD, ln_sI, ln_sR, ln_sA, ln_sQ, ln_sL, ln_sD, gI_sR, gI_sA, gI_sQ, gI_sL, gI_sD, gR_sI, gR_sA, gR_sQ, gR_sL, gR_sD, gA_sI, gA_sR, gA_sQ, gA_sL, gA_sD, gQ_sI, gQ_sR, gQ_sA, gQ_sL, gQ_sD, gL_sI, gL_sR, gL_sA, gL_sQ, gL_sD]; assumption) | simp [kd_sI, kd_sR, kd_sA, kd_sQ, kd_sL, kd_sD, ln_sI, ln_sR, ln_sA, ln_sQ, ln_sL, ln_sD, gI_sR, gI_sA, gI_sQ, gI_sL, gI_sD, gR_sI, gR_sA, gR_sQ, gR_sL, gR_sD, gA_sI, gA_sR, gA_sQ, gA_sL, gA_sD, gQ_sI, gQ_sR, gQ_sA, gQ_sL, gQ_sD, gL_sI, gL_sR, gL_sA, gL_sQ, gL_sD, kd_nO, kd_nA, *]) (by first | assumption | exact gI_sIs | exact gR_sRs | with_reducible rfl | (simp only [kd_sI, kd_sR, kd_sA, kd_sQ, kd_sL, kd_sD, ln_sI, ln_sR, ln_sA, ln_sQ, ln_sL, ln_sD, gI_sR, gI_sA, gI_sQ, gI_sL, gI_sD, gR_sI, gR_sA, gR_sQ, gR_sL, gR_sD, gA_sI, gA_sR, gA_sQ, gA_sL, gA_sD, gQ_sI, gQ_sR, gQ_sA, gQ_sL, gQ_sD, gL_sI, gL_sR, gL_sA, gL_sQ, gL_sD]; first | done | assumption | with_reducible rfl) | rfl) ?_
      refine r_bipush (v := nI 40) dX3_fullest_28 (by decide) ?_
      refine r_iald dX3_fullest_30 (by first | assumption | (simp only [kd_sI, kd_sR, kd_sA, kd_sQ, kd_sL, kd_sD, ln_sI, ln_sR, ln_sA, ln_sQ, ln_sL, ln_sD, gI_sR, gI_sA, gI_sQ, gI_sL, gI_sD, gR_sI, gR_sA, gR_sQ, gR_sL, gR_sD, gA_sI, gA_sR, gA_sQ, gA_sL, gA_sD, gQ_sI, gQ_sR, gQ_sA, gQ_sL, gQ_sD, gL_sI, gL_sR, gL_sA, gL_sQ, gL_sD]; assumption) | simp [kd_sI, kd_sR, kd_sA, kd_sQ, kd_sL, kd_sD, ln_sI, ln_sR, ln_sA, ln_sQ, ln_sL, ln_sD, gI_sR, gI_sA, gI_sQ, gI_sL, gI_sD, gR_sI, gR_sA, gR_sQ, gR_sL, gR_sD, gA_sI, gA_sR, gA_sQ, gA_sL, gA_sD, gQ_sI, gQ_sR, gQ_sA, gQ_sL, gQ_sD, gL_sI, gL_sR, gL_sA, gL_sQ, gL_sD, kd_nO, kd_nA, *]) (by decide) (by first | assumption | exact gI_sIs | exact gR_sRs | with_reducible rfl | (simp only [kd_sI, kd_sR, kd_sA, kd_sQ, kd_sL, kd_sD, ln_sI, ln_sR, ln_sA, ln_sQ, ln_sL, ln_sD, gI_sR, gI_sA, gI_sQ, gI_sL, gI_sD, gR_sI, gR_sA, gR_sQ, gR_sL, gR_sD, gA_sI, gA_sR, gA_sQ, gA_sL, gA_sD, gQ_sI, gQ_sR, gQ_sA, gQ_sL, gQ_sD, gL_sI, gL_sR, gL_sA, gL_sQ, gL_sD]; first | done | assumption | with_reducible rfl) | rfl) (by first | with_reducible rfl | assumption | (simp only [nI_add, pk_mul, nI_1]; with_reducible rfl)) (by first | assumption | omega) (by first | assumption | omega) (by first | assumption | exact gI_sIs | exact gR_sRs | with_reducible rfl | (simp only [kd_sI, kd_sR, kd_sA, kd_sQ, kd_sL, kd_sD, ln_sI, ln_sR, ln_sA, ln_sQ, ln_sL, ln_sD, gI_sR, gI_sA, gI_sQ, gI_sL, gI_sD, gR_sI, gR_sA, gR_sQ, gR_sL, gR_sD, gA_sI, gA_sR, gA_sQ, gA_sL, gA_sD, gQ_sI, gQ_sR, gQ_sA, gQ_sL, gQ_sD, gL_sI, gL_sR, gL_sA, gL_sQ, gL_sD]; first | done | assumption | with_reducible rfl) | rfl) ?_
      refine r_icmp_ge (tgt := 73) dX3_fullest_31 (by decide) (fun h31 => ?_) (fun h31 => ?_)
      · exact absurd h31 (nI_ge (by omega) (by omega))
      · refine r_aload_n (i := 0) dX3_fullest_34 rfl rfl ?_
        refine r_iload_n (i := 2) dX3_fullest_35 rfl rfl ?_
        refine r_callV (As := [_]) (mc' := 0) (ms' := 0) dX3_fullest_36 k_X3_148 rfl (by first | assumption | (simp only [kd_sI, kd_sR, kd_sA, kd_sQ, kd_sL, kd_sD, ln_sI, ln_sR, ln_sA, ln_sQ, ln_sL, ln_sD, gI_sR, gI_sA, gI_sQ, gI_sL, gI_sD, gR_sI, gR_sA, gR_sQ, gR_sL, gR_sD, gA_sI, gA_sR, gA_sQ, gA_sL, gA_sD, gQ_sI, gQ_sR, gQ_sA, gQ_sL, gQ_sD, gL_sI, gL_sR, gL_sA, gL_sQ, gL_sD]; assumption) | simp [kd_sI, kd_sR, kd_sA, kd_sQ, kd_sL, kd_sD, ln_sI, ln_sR, ln_sA, ln_sQ, ln_sL, ln_sD, gI_sR, gI_sA, gI_sQ, gI_sL, gI_sD, gR_sI, gR_sA, gR_sQ, gR_sL, gR_sD, gA_sI, gA_sR, gA_sQ, gA_sL, gA_sD, gQ_sI, gQ_sR, gQ_sA, gQ_sL, gQ_sD, gL_sI, gL_sR, gL_sA, gL_sQ, gL_sD, kd_nO, kd_nA, *]) (T := TX3) (N := 27) rfl (by first | assumption | omega) (by first | assumption | omega) (by first | assumption | omega) (Nat.le_of_ble_eq_true rfl) ?_
        refine s_areasIn (by omega) hM1 hB1 (by rw [hg1, ← hR]; omega) ?_
        refine r_aload_n (i := 0) dX3_fullest_39 rfl rfl ?_
        refine r_iload_n (i := 1) dX3_fullest_40 rfl rfl ?_
        refine r_iconst (v := nI 3) dX3_fullest_41 (by decide) ?_
        refine r_callV (As := [_, _]) (mc' := 0) (ms' := 0) dX3_fullest_42 k_X3_121 rfl (by first | assumption | (simp only [kd_sI, kd_sR, kd_sA, kd_sQ, kd_sL, kd_sD, ln_sI, ln_sR, ln_sA, ln_sQ, ln_sL, ln_sD, gI_sR, gI_sA, gI_sQ, gI_sL, gI_sD, gR_sI, gR_sA, gR_sQ, gR_sL, gR_sD, gA_sI, gA_sR, gA_sQ, gA_sL, gA_sD, gQ_sI, gQ_sR, gQ_sA, gQ_sL, gQ_sD, gL_sI, gL_sR, gL_sA, gL_sQ, gL_sD]; assumption) | simp [kd_sI, kd_sR, kd_sA, kd_sQ, kd_sL, kd_sD, ln_sI, ln_sR, ln_sA, ln_sQ, ln_sL, ln_sD, gI_sR, gI_sA, gI_sQ, gI_sL, gI_sD, gR_sI, gR_sA, gR_sQ, gR_sL, gR_sD, gA_sI, gA_sR, gA_sQ, gA_sL, gA_sD, gQ_sI, gQ_sR, gQ_sA, gQ_sL, gQ_sD, gL_sI, gL_sR, gL_sA, gL_sQ, gL_sD, kd_nO, kd_nA, *]) (T := TX3) (N := 27) rfl (by first | assumption | omega) (by first | assumption | omega) (by first | assumption | omega) (Nat.le_of_ble_eq_true rfl) ?_
        refine s_trayTold hM1 (by omega) ?_
        refine r_imul dX3_fullest_45 ?_
        refine r_aload_n (i := 0) dX3_fullest_46 rfl rfl ?_
        refine r_iload_n (i := 1) dX3_fullest_47 rfl rfl ?_
        try simp only [nI_add, pk_mul, nI_1]
        refine r_callV (As := [_]) (mc' := 0) (ms' := 0) dX3_fullest_48 k_X3_148 rfl (by first | assumption | (simp only [kd_sI, kd_sR, kd_sA, kd_sQ, kd_sL, kd_sD, ln_sI, ln_sR, ln_sA, ln_sQ, ln_sL, ln_sD, gI_sR, gI_sA, gI_sQ, gI_sL, gI_sD, gR_sI, gR_sA, gR_sQ, gR_sL, gR_sD, gA_sI, gA_sR, gA_sQ, gA_sL, gA_sD, gQ_sI, gQ_sR, gQ_sA, gQ_sL, gQ_sD, gL_sI, gL_sR, gL_sA, gL_sQ, gL_sD]; assumption) | simp [kd_sI, kd_sR, kd_sA, kd_sQ, kd_sL, kd_sD, ln_sI, ln_sR, ln_sA, ln_sQ, ln_sL, ln_sD, gI_sR, gI_sA, gI_sQ, gI_sL, gI_sD, gR_sI, gR_sA, gR_sQ, gR_sL, gR_sD, gA_sI, gA_sR, gA_sQ, gA_sL, gA_sD, gQ_sI, gQ_sR, gQ_sA, gQ_sL, gQ_sD, gL_sI, gL_sR, gL_sA, gL_sQ, gL_sD, kd_nO, kd_nA, *]) (T := TX3) (N := 27) rfl (by first | assumption | omega) (by first | assumption | omega) (by first | assumption | omega) (Nat.le_of_ble_eq_true rfl) ?_
        refine s_areasIn (by omega) hM1 hB1 (by rw [hg1, ← hR]; omega) ?_
        refine r_aload_n (i := 0) dX3_fullest_51 rfl rfl ?_
        refine r_iload_n (i := 2) dX3_fullest_52 rfl rfl ?_
        refine r_iconst (v := nI 3) dX3_fullest_53 (by decide) ?_
        refine r_callV (As := [_, _]) (mc' := 0) (ms' := 0) dX3_fullest_54 k_X3_121 rfl (by first | assumption | (simp only [kd_sI, kd_sR, kd_sA, kd_sQ, kd_sL, kd_sD, ln_sI, ln_sR, ln_sA, ln_sQ, ln_sL, ln_sD, gI_sR, gI_sA, gI_sQ, gI_sL, gI_sD, gR_sI, gR_sA, gR_sQ, gR_sL, gR_sD, gA_sI, gA_sR, gA_sQ, gA_sL, gA_sD, gQ_sI, gQ_sR, gQ_sA, gQ_sL, gQ_sD, gL_sI, gL_sR, gL_sA, gL_sQ, gL_sD]; assumption) | simp [kd_sI, kd_sR, kd_sA, kd_sQ, kd_sL, kd_sD, ln_sI, ln_sR, ln_sA, ln_sQ, ln_sL, ln_sD, gI_sR, gI_sA, gI_sQ, gI_sL, gI_sD, gR_sI, gR_sA, gR_sQ, gR_sL, gR_sD, gA_sI, gA_sR, gA_sQ, gA_sL, gA_sD, gQ_sI, gQ_sR, gQ_sA, gQ_sL, gQ_sD, gL_sI, gL_sR, gL_sA, gL_sQ, gL_sD, kd_nO, kd_nA, *]) (T := TX3) (N := 27) rfl (by first | assumption | omega) (by first | assumption | omega) (by first | assumption | omega) (Nat.le_of_ble_eq_true rfl) ?_
        refine s_trayTold hM1 (by omega) ?_
        rw [hg1, show 41 + 5 * t + 3 = 44 + 5 * t by omega, show 41 + 5 * b + 3 = 44 + 5 * b by omega]
        refine r_imul dX3_fullest_57 ?_
        refine r_icmp_le (tgt := 65) dX3_fullest_58 (by decide) (fun h58 => ?_) (fun h58 => ?_)
        · rw [if_neg (Int32.not_lt.mpr h58)] at hq
          refine r_iload_n (i := 1) dX3_fullest_65 rfl rfl ?_
          refine r_istore_n (i := 1) dX3_fullest_66 rfl (Nat.le_of_ble_eq_true rfl) (by simp only [lset]; rfl) ?_
          refine r_iinc dX3_fullest_67 rfl (by first | exact nI_1 _ | rfl) (by simp only [lset]; rfl) ?_
          refine r_goto (tgt := 23) dX3_fullest_70 (by decide) ?_
          exact ih (t + 1) b hM1 hg1 (by omega) (by omega) (by omega) hq
        · rw [if_pos (Int32.not_le.mp h58)] at hq
          refine r_iload_n (i := 2) dX3_fullest_61 rfl rfl ?_
          refine r_goto (tgt := 66) dX3_fullest_62 (by decide) ?_
          refine r_istore_n (i := 1) dX3_fullest_66 rfl (Nat.le_of_ble_eq_true rfl) (by simp only [lset]; rfl) ?_
          refine r_iinc dX3_fullest_67 rfl (by first | exact nI_1 _ | rfl) (by simp only [lset]; rfl) ?_
          refine r_goto (tgt := 23) dX3_fullest_70 (by decide) ?_
          exact ih (t + 1) t hM1 hg1 (by omega) (by omega) (by omega) hq
  have g40 : gA H 1068 (ma 68) 40 = nI R := by rw [← hg]; exact hR1
  refine AMet.of (M := mX3_fullest) (maxL := 3) rfl rfl (Nat.le_of_ble_eq_true rfl) ?_
  show AW mX3_fullest _ _ _ _ _ _ _ 0 [some (vR (some m)), none, none] []
  refine r_aload_n (i := 0) dX3_fullest_0 rfl rfl ?_
  refine r_aload_n (i := 0) dX3_fullest_1 rfl rfl ?_
  refine r_getR dX3_fullest_2 fR_X3_7 (by first | assumption | (simp only [kd_sI, kd_sR, kd_sA, kd_sQ, kd_sL, kd_sD, ln_sI, ln_sR, ln_sA, ln_sQ, ln_sL, ln_sD, gI_sR, gI_sA, gI_sQ, gI_sL, gI_sD, gR_sI, gR_sA, gR_sQ, gR_sL, gR_sD, gA_sI, gA_sR, gA_sQ, gA_sL, gA_sD, gQ_sI, gQ_sR, gQ_sA, gQ_sL, gQ_sD, gL_sI, gL_sR, gL_sA, gL_sQ, gL_sD]; assumption) | simp [kd_sI, kd_sR, kd_sA, kd_sQ, kd_sL, kd_sD, ln_sI, ln_sR, ln_sA, ln_sQ, ln_sL, ln_sD, gI_sR, gI_sA, gI_sQ, gI_sL, gI_sD, gR_sI, gR_sA, gR_sQ, gR_sL, gR_sD, gA_sI, gA_sR, gA_sQ, gA_sL, gA_sD, gQ_sI, gQ_sR, gQ_sA, gQ_sL, gQ_sD, gL_sI, gL_sR, gL_sA, gL_sQ, gL_sD, kd_nO, kd_nA, *]) (by first | assumption | exact gI_sIs | exact gR_sRs | with_reducible rfl | (simp only [kd_sI, kd_sR, kd_sA, kd_sQ, kd_sL, kd_sD, ln_sI, ln_sR, ln_sA, ln_sQ, ln_sL, ln_sD, gI_sR, gI_sA, gI_sQ, gI_sL, gI_sD, gR_sI, gR_sA, gR_sQ, gR_sL, gR_sD, gA_sI, gA_sR, gA_sQ, gA_sL, gA_sD, gQ_sI, gQ_sR, gQ_sA, gQ_sL, gQ_sD, gL_sI, gL_sR, gL_sA, gL_sQ, gL_sD]; first | done | assumption | with_reducible rfl) | rfl) ?_
  refine r_bipush (v := nI 40) dX3_fullest_5 (by decide) ?_
  refine r_iald dX3_fullest_7 (by first | assumption | (simp only [kd_sI, kd_sR, kd_sA, kd_sQ, kd_sL, kd_sD, ln_sI, ln_sR, ln_sA, ln_sQ, ln_sL, ln_sD, gI_sR, gI_sA, gI_sQ, gI_sL, gI_sD, gR_sI, gR_sA, gR_sQ, gR_sL, gR_sD, gA_sI, gA_sR, gA_sQ, gA_sL, gA_sD, gQ_sI, gQ_sR, gQ_sA, gQ_sL, gQ_sD, gL_sI, gL_sR, gL_sA, gL_sQ, gL_sD]; assumption) | simp [kd_sI, kd_sR, kd_sA, kd_sQ, kd_sL, kd_sD, ln_sI, ln_sR, ln_sA, ln_sQ, ln_sL, ln_sD, gI_sR, gI_sA, gI_sQ, gI_sL, gI_sD, gR_sI, gR_sA, gR_sQ, gR_sL, gR_sD, gA_sI, gA_sR, gA_sQ, gA_sL, gA_sD, gQ_sI, gQ_sR, gQ_sA, gQ_sL, gQ_sD, gL_sI, gL_sR, gL_sA, gL_sQ, gL_sD, kd_nO, kd_nA, *]) (by decide) (by first | assumption | exact gI_sIs | exact gR_sRs | with_reducible rfl | (simp only [kd_sI, kd_sR, kd_sA, kd_sQ, kd_sL, kd_sD, ln_sI, ln_sR, ln_sA, ln_sQ, ln_sL, ln_sD, gI_sR, gI_sA, gI_sQ, gI_sL, gI_sD, gR_sI, gR_sA, gR_sQ, gR_sL, gR_sD, gA_sI, gA_sR, gA_sQ, gA_sL, gA_sD, gQ_sI, gQ_sR, gQ_sA, gQ_sL, gQ_sD, gL_sI, gL_sR, gL_sA, gL_sQ, gL_sD]; first | done | assumption | with_reducible rfl) | rfl) (by first | with_reducible rfl | assumption | (simp only [nI_add, pk_mul, nI_1]; with_reducible rfl)) (by first | assumption | omega) (by first | assumption | omega) (by first | assumption | exact gI_sIs | exact gR_sRs | with_reducible rfl | (simp only [kd_sI, kd_sR, kd_sA, kd_sQ, kd_sL, kd_sD, ln_sI, ln_sR, ln_sA, ln_sQ, ln_sL, ln_sD, gI_sR, gI_sA, gI_sQ, gI_sL, gI_sD, gR_sI, gR_sA, gR_sQ, gR_sL, gR_sD, gA_sI, gA_sR, gA_sQ, gA_sL, gA_sD, gQ_sI, gQ_sR, gQ_sA, gQ_sL, gQ_sD, gL_sI, gL_sR, gL_sA, gL_sQ, gL_sD]; first | done | assumption | with_reducible rfl) | rfl) ?_
  refine r_if_ne (tgt := 15) dX3_fullest_8 (by decide) (fun h8 => ?_) (fun h8 => ?_)
  · have hR0 : R ≠ 0 := fun q => h8 (by rw [q]; decide)
    rw [if_neg hR0] at hQ
    refine r_iconst (v := nI 0) dX3_fullest_15 (by decide) ?_
    refine r_putI dX3_fullest_16 fG_X3_66 (fun _ => by first | rfl | contradiction) (by first | assumption | (simp only [kd_sI, kd_sR, kd_sA, kd_sQ, kd_sL, kd_sD, ln_sI, ln_sR, ln_sA, ln_sQ, ln_sL, ln_sD, gI_sR, gI_sA, gI_sQ, gI_sL, gI_sD, gR_sI, gR_sA, gR_sQ, gR_sL, gR_sD, gA_sI, gA_sR, gA_sQ, gA_sL, gA_sD, gQ_sI, gQ_sR, gQ_sA, gQ_sL, gQ_sD, gL_sI, gL_sR, gL_sA, gL_sQ, gL_sD]; assumption) | simp [kd_sI, kd_sR, kd_sA, kd_sQ, kd_sL, kd_sD, ln_sI, ln_sR, ln_sA, ln_sQ, ln_sL, ln_sD, gI_sR, gI_sA, gI_sQ, gI_sL, gI_sD, gR_sI, gR_sA, gR_sQ, gR_sL, gR_sD, gA_sI, gA_sR, gA_sQ, gA_sL, gA_sD, gQ_sI, gQ_sR, gQ_sA, gQ_sL, gQ_sD, gL_sI, gL_sR, gL_sA, gL_sQ, gL_sD, kd_nO, kd_nA, *]) (by first | rfl | assumption) (by first | rfl | assumption) ?_
    refine r_iconst (v := nI 0) dX3_fullest_19 (by decide) ?_
    refine r_istore_n (i := 1) dX3_fullest_20 rfl (Nat.le_of_ble_eq_true rfl) (by simp only [lset]; rfl) ?_
    refine r_iconst (v := nI 1) dX3_fullest_21 (by decide) ?_
    refine r_istore_n (i := 2) dX3_fullest_22 rfl (Nat.le_of_ble_eq_true rfl) (by simp only [lset]; rfl) ?_
    exact loop _ (R - 1) 1 0 (hM.mf (MF.sI (by decide) (by decide))) hg.symm (by omega) (by omega) (by omega) hQ
  · have hR0 : R = 0 := by
      rcases Nat.eq_zero_or_pos R with q | q
      · exact q
      · exact absurd h8 (nI_ne0 q (by omega))
    rw [if_pos hR0] at hQ
    refine r_iconst (v := nI 1) dX3_fullest_11 (by decide) ?_
    refine r_goto (tgt := 16) dX3_fullest_12 (by decide) ?_
    refine r_putI dX3_fullest_16 fG_X3_66 (fun _ => by first | rfl | contradiction) (by first | assumption | (simp only [kd_sI, kd_sR, kd_sA, kd_sQ, kd_sL, kd_sD, ln_sI, ln_sR, ln_sA, ln_sQ, ln_sL, ln_sD, gI_sR, gI_sA, gI_sQ, gI_sL, gI_sD, gR_sI, gR_sA, gR_sQ, gR_sL, gR_sD, gA_sI, gA_sR, gA_sQ, gA_sL, gA_sD, gQ_sI, gQ_sR, gQ_sA, gQ_sL, gQ_sD, gL_sI, gL_sR, gL_sA, gL_sQ, gL_sD]; assumption) | simp [kd_sI, kd_sR, kd_sA, kd_sQ, kd_sL, kd_sD, ln_sI, ln_sR, ln_sA, ln_sQ, ln_sL, ln_sD, gI_sR, gI_sA, gI_sQ, gI_sL, gI_sD, gR_sI, gR_sA, gR_sQ, gR_sL, gR_sD, gA_sI, gA_sR, gA_sQ, gA_sL, gA_sD, gQ_sI, gQ_sR, gQ_sA, gQ_sL, gQ_sD, gL_sI, gL_sR, gL_sA, gL_sQ, gL_sD, kd_nO, kd_nA, *]) (by first | rfl | assumption) (by first | rfl | assumption) ?_
    refine r_iconst (v := nI 0) dX3_fullest_19 (by decide) ?_
    refine r_istore_n (i := 1) dX3_fullest_20 rfl (Nat.le_of_ble_eq_true rfl) (by simp only [lset]; rfl) ?_
    refine r_iconst (v := nI 1) dX3_fullest_21 (by decide) ?_
    refine r_istore_n (i := 2) dX3_fullest_22 rfl (Nat.le_of_ble_eq_true rfl) (by simp only [lset]; rfl) ?_
    exact loop _ (R - 1) 1 0 (hM.mf (MF.sI (by decide) (by decide))) hg.symm (by omega) (by omega) (by omega) hQ
theorem s_fill {t : Int32} (hd : 5 ≤ d) (hM : MO H m ma) (hB : GB (gA H 1068 (ma 68))) (hne : ∀ j, j < nat (gA H 1068 (ma 68)) 40 → vf_n32 (fillV (gA H 1068 (ma 68)) j)) (hQ0 : isT (gA H 1068 (ma 68)) t = false → Qr (some (vF FP.fconst0)) (sI H 77 m (nI 1))) (hQ1 : isT (gA H 1068 (ma 68)) t = true → Qr (some (vF (fillV (gA H 1068 (ma 68)) t.toNatClampNeg))) (sI H 77 m (nI 0))) : AMet G d 0 0 yX3_fill wX3_fill H [vR (some m), vI t] Qr Qx := by
  have e0 := hM.1
  refine AMet.of (M := mX3_fill) (maxL := 2) rfl rfl (Nat.le_of_ble_eq_true rfl) ?_
  show AW mX3_fill _ _ _ _ _ _ _ 0 [some (vR (some m)), some (vI t)] []
  refine r_aload_n (i := 0) dX3_fill_0 rfl rfl ?_
  refine r_aload_n (i := 0) dX3_fill_1 rfl rfl ?_
  refine r_iload_n (i := 1) dX3_fill_2 rfl rfl ?_
  refine r_callV (As := [_]) (mc' := 0) (ms' := 0) dX3_fill_3 k_X3_111 rfl (by first | assumption | (simp only [kd_sI, kd_sR, kd_sA, kd_sQ, kd_sL, kd_sD, ln_sI, ln_sR, ln_sA, ln_sQ, ln_sL, ln_sD, gI_sR, gI_sA, gI_sQ, gI_sL, gI_sD, gR_sI, gR_sA, gR_sQ, gR_sL, gR_sD, gA_sI, gA_sR, gA_sQ, gA_sL, gA_sD, gQ_sI, gQ_sR, gQ_sA, gQ_sL, gQ_sD, gL_sI, gL_sR, gL_sA, gL_sQ, gL_sD]; assumption) | simp [kd_sI, kd_sR, kd_sA, kd_sQ, kd_sL, kd_sD, ln_sI, ln_sR, ln_sA, ln_sQ, ln_sL, ln_sD, gI_sR, gI_sA, gI_sQ, gI_sL, gI_sD, gR_sI, gR_sA, gR_sQ, gR_sL, gR_sD, gA_sI, gA_sR, gA_sQ, gA_sL, gA_sD, gQ_sI, gQ_sR, gQ_sA, gQ_sL, gQ_sD, gL_sI, gL_sR, gL_sA, gL_sQ, gL_sD, kd_nO, kd_nA, *]) (T := TX3) (N := 27) rfl (by first | assumption | omega) (by first | assumption | omega) (by first | assumption | omega) (Nat.le_of_ble_eq_true rfl) ?_
  refine s_isTray (by omega) hM ?_
  cases ht : isT (gA H 1068 (ma 68)) t with
  | false =>
    rw [show inB t (nI 0) (gA H 1068 (ma 68) 40 - nI 1) = false from ht]
    refine r_if_eq (tgt := 13) dX3_fill_6 (by decide) (fun h6 => ?_) (fun h6 => ?_)
    · refine r_iconst (v := nI 1) dX3_fill_13 (by decide) ?_
      refine r_putI dX3_fill_14 fG_X3_66 (fun _ => by first | rfl | contradiction) (by first | assumption | (simp only [kd_sI, kd_sR, kd_sA, kd_sQ, kd_sL, kd_sD, ln_sI, ln_sR, ln_sA, ln_sQ, ln_sL, ln_sD, gI_sR, gI_sA, gI_sQ, gI_sL, gI_sD, gR_sI, gR_sA, gR_sQ, gR_sL, gR_sD, gA_sI, gA_sR, gA_sQ, gA_sL, gA_sD, gQ_sI, gQ_sR, gQ_sA, gQ_sL, gQ_sD, gL_sI, gL_sR, gL_sA, gL_sQ, gL_sD]; assumption) | simp [kd_sI, kd_sR, kd_sA, kd_sQ, kd_sL, kd_sD, ln_sI, ln_sR, ln_sA, ln_sQ, ln_sL, ln_sD, gI_sR, gI_sA, gI_sQ, gI_sL, gI_sD, gR_sI, gR_sA, gR_sQ, gR_sL, gR_sD, gA_sI, gA_sR, gA_sQ, gA_sL, gA_sD, gQ_sI, gQ_sR, gQ_sA, gQ_sL, gQ_sD, gL_sI, gL_sR, gL_sA, gL_sQ, gL_sD, kd_nO, kd_nA, *]) (by first | rfl | assumption) (by first | rfl | assumption) ?_
      refine r_aload_n (i := 0) dX3_fill_17 rfl rfl ?_
      refine r_getI dX3_fill_18 fR_X3_66 (by first | assumption | (simp only [kd_sI, kd_sR, kd_sA, kd_sQ, kd_sL, kd_sD, ln_sI, ln_sR, ln_sA, ln_sQ, ln_sL, ln_sD, gI_sR, gI_sA, gI_sQ, gI_sL, gI_sD, gR_sI, gR_sA, gR_sQ, gR_sL, gR_sD, gA_sI, gA_sR, gA_sQ, gA_sL, gA_sD, gQ_sI, gQ_sR, gQ_sA, gQ_sL, gQ_sD, gL_sI, gL_sR, gL_sA, gL_sQ, gL_sD]; assumption) | simp [kd_sI, kd_sR, kd_sA, kd_sQ, kd_sL, kd_sD, ln_sI, ln_sR, ln_sA, ln_sQ, ln_sL, ln_sD, gI_sR, gI_sA, gI_sQ, gI_sL, gI_sD, gR_sI, gR_sA, gR_sQ, gR_sL, gR_sD, gA_sI, gA_sR, gA_sQ, gA_sL, gA_sD, gQ_sI, gQ_sR, gQ_sA, gQ_sL, gQ_sD, gL_sI, gL_sR, gL_sA, gL_sQ, gL_sD, kd_nO, kd_nA, *]) (by first | assumption | exact gI_sIs | exact gR_sRs | with_reducible rfl | (simp only [kd_sI, kd_sR, kd_sA, kd_sQ, kd_sL, kd_sD, ln_sI, ln_sR, ln_sA, ln_sQ, ln_sL, ln_sD, gI_sR, gI_sA, gI_sQ, gI_sL, gI_sD, gR_sI, gR_sA, gR_sQ, gR_sL, gR_sD, gA_sI, gA_sR, gA_sQ, gA_sL, gA_sD, gQ_sI, gQ_sR, gQ_sA, gQ_sL, gQ_sD, gL_sI, gL_sR, gL_sA, gL_sQ, gL_sD]; first | done | assumption | with_reducible rfl) | rfl) ?_
      refine r_if_le (tgt := 28) dX3_fill_21 (by decide) (fun h21 => ?_) (fun h21 => ?_)
      · exact absurd h21 (by decide)
      · refine r_fconst0 dX3_fill_24 ?_
        refine r_goto (tgt := 42) dX3_fill_25 (by decide) ?_
        refine r_freturn dX3_fill_42 rfl ?_
        exact hQ0 ht
    · exact absurd rfl h6
  | true =>
    rw [show inB t (nI 0) (gA H 1068 (ma 68) 40 - nI 1) = true from ht]
    obtain ⟨j, hj, rfl, ej⟩ := inB_t ht hB.2.1 (by decide)
    have hR := hB.2.1.2
    have hM1 : MO (sI H 77 m (nI 0)) m ma := hM.mf (MF.sI (by decide) (by decide))
    refine r_if_eq (tgt := 13) dX3_fill_6 (by decide) (fun h6 => ?_) (fun h6 => ?_)
    · exact absurd h6 (by decide)
    · refine r_iconst (v := nI 0) dX3_fill_9 (by decide) ?_
      refine r_goto (tgt := 14) dX3_fill_10 (by decide) ?_
      refine r_putI dX3_fill_14 fG_X3_66 (fun _ => by first | rfl | contradiction) (by first | assumption | (simp only [kd_sI, kd_sR, kd_sA, kd_sQ, kd_sL, kd_sD, ln_sI, ln_sR, ln_sA, ln_sQ, ln_sL, ln_sD, gI_sR, gI_sA, gI_sQ, gI_sL, gI_sD, gR_sI, gR_sA, gR_sQ, gR_sL, gR_sD, gA_sI, gA_sR, gA_sQ, gA_sL, gA_sD, gQ_sI, gQ_sR, gQ_sA, gQ_sL, gQ_sD, gL_sI, gL_sR, gL_sA, gL_sQ, gL_sD]; assumption) | simp [kd_sI, kd_sR, kd_sA, kd_sQ, kd_sL, kd_sD, ln_sI, ln_sR, ln_sA, ln_sQ, ln_sL, ln_sD, gI_sR, gI_sA, gI_sQ, gI_sL, gI_sD, gR_sI, gR_sA, gR_sQ, gR_sL, gR_sD, gA_sI, gA_sR, gA_sQ, gA_sL, gA_sD, gQ_sI, gQ_sR, gQ_sA, gQ_sL, gQ_sD, gL_sI, gL_sR, gL_sA, gL_sQ, gL_sD, kd_nO, kd_nA, *]) (by first | rfl | assumption) (by first | rfl | assumption) ?_
      refine r_aload_n (i := 0) dX3_fill_17 rfl rfl ?_
      refine r_getI dX3_fill_18 fR_X3_66 (by first | assumption | (simp only [kd_sI, kd_sR, kd_sA, kd_sQ, kd_sL, kd_sD, ln_sI, ln_sR, ln_sA, ln_sQ, ln_sL, ln_sD, gI_sR, gI_sA, gI_sQ, gI_sL, gI_sD, gR_sI, gR_sA, gR_sQ, gR_sL, gR_sD, gA_sI, gA_sR, gA_sQ, gA_sL, gA_sD, gQ_sI, gQ_sR, gQ_sA, gQ_sL, gQ_sD, gL_sI, gL_sR, gL_sA, gL_sQ, gL_sD]; assumption) | simp [kd_sI, kd_sR, kd_sA, kd_sQ, kd_sL, kd_sD, ln_sI, ln_sR, ln_sA, ln_sQ, ln_sL, ln_sD, gI_sR, gI_sA, gI_sQ, gI_sL, gI_sD, gR_sI, gR_sA, gR_sQ, gR_sL, gR_sD, gA_sI, gA_sR, gA_sQ, gA_sL, gA_sD, gQ_sI, gQ_sR, gQ_sA, gQ_sL, gQ_sD, gL_sI, gL_sR, gL_sA, gL_sQ, gL_sD, kd_nO, kd_nA, *]) (by first | assumption | exact gI_sIs | exact gR_sRs | with_reducible rfl | (simp only [kd_sI, kd_sR, kd_sA, kd_sQ, kd_sL, kd_sD, ln_sI, ln_sR, ln_sA, ln_sQ, ln_sL, ln_sD, gI_sR, gI_sA, gI_sQ, gI_sL, gI_sD, gR_sI, gR_sA, gR_sQ, gR_sL, gR_sD, gA_sI, gA_sR, gA_sQ, gA_sL, gA_sD, gQ_sI, gQ_sR, gQ_sA, gQ_sL, gQ_sD, gL_sI, gL_sR, gL_sA, gL_sQ, gL_sD]; first | done | assumption | with_reducible rfl) | rfl) ?_
      refine r_if_le (tgt := 28) dX3_fill_21 (by decide) (fun h21 => ?_) (fun h21 => ?_)
      · refine r_aload_n (i := 0) dX3_fill_28 rfl rfl ?_
        refine r_iload_n (i := 1) dX3_fill_29 rfl rfl ?_
        refine r_callV (As := [_]) (mc' := 0) (ms' := 0) dX3_fill_30 k_X3_148 rfl (by first | assumption | (simp only [kd_sI, kd_sR, kd_sA, kd_sQ, kd_sL, kd_sD, ln_sI, ln_sR, ln_sA, ln_sQ, ln_sL, ln_sD, gI_sR, gI_sA, gI_sQ, gI_sL, gI_sD, gR_sI, gR_sA, gR_sQ, gR_sL, gR_sD, gA_sI, gA_sR, gA_sQ, gA_sL, gA_sD, gQ_sI, gQ_sR, gQ_sA, gQ_sL, gQ_sD, gL_sI, gL_sR, gL_sA, gL_sQ, gL_sD]; assumption) | simp [kd_sI, kd_sR, kd_sA, kd_sQ, kd_sL, kd_sD, ln_sI, ln_sR, ln_sA, ln_sQ, ln_sL, ln_sD, gI_sR, gI_sA, gI_sQ, gI_sL, gI_sD, gR_sI, gR_sA, gR_sQ, gR_sL, gR_sD, gA_sI, gA_sR, gA_sQ, gA_sL, gA_sD, gQ_sI, gQ_sR, gQ_sA, gQ_sL, gQ_sD, gL_sI, gL_sR, gL_sA, gL_sQ, gL_sD, kd_nO, kd_nA, *]) (T := TX3) (N := 27) rfl (by first | assumption | omega) (by first | assumption | omega) (by first | assumption | omega) (Nat.le_of_ble_eq_true rfl) ?_
        refine s_areasIn (H := sI H 77 m (nI 0)) (by omega) hM1 hB hj ?_
        refine r_i2f dX3_fill_33 ?_
        refine r_aload_n (i := 0) dX3_fill_34 rfl rfl ?_
        refine r_iload_n (i := 1) dX3_fill_35 rfl rfl ?_
        refine r_iconst (v := nI 3) dX3_fill_36 (by decide) ?_
        refine r_callV (As := [_, _]) (mc' := 0) (ms' := 0) dX3_fill_37 k_X3_121 rfl (by first | assumption | (simp only [kd_sI, kd_sR, kd_sA, kd_sQ, kd_sL, kd_sD, ln_sI, ln_sR, ln_sA, ln_sQ, ln_sL, ln_sD, gI_sR, gI_sA, gI_sQ, gI_sL, gI_sD, gR_sI, gR_sA, gR_sQ, gR_sL, gR_sD, gA_sI, gA_sR, gA_sQ, gA_sL, gA_sD, gQ_sI, gQ_sR, gQ_sA, gQ_sL, gQ_sD, gL_sI, gL_sR, gL_sA, gL_sQ, gL_sD]; assumption) | simp [kd_sI, kd_sR, kd_sA, kd_sQ, kd_sL, kd_sD, ln_sI, ln_sR, ln_sA, ln_sQ, ln_sL, ln_sD, gI_sR, gI_sA, gI_sQ, gI_sL, gI_sD, gR_sI, gR_sA, gR_sQ, gR_sL, gR_sD, gA_sI, gA_sR, gA_sQ, gA_sL, gA_sD, gQ_sI, gQ_sR, gQ_sA, gQ_sL, gQ_sD, gL_sI, gL_sR, gL_sA, gL_sQ, gL_sD, kd_nO, kd_nA, *]) (T := TX3) (N := 27) rfl (by first | assumption | omega) (by first | assumption | omega) (by first | assumption | omega) (Nat.le_of_ble_eq_true rfl) ?_
        refine s_trayTold (H := sI H 77 m (nI 0)) hM1 (by omega) ?_
        rw [show 41 + 5 * j + 3 = 44 + 5 * j by omega]
        refine r_i2f dX3_fill_40 ?_
        refine r_fdiv dX3_fill_41 ?_ ?_
        · exact hne j hj
        · refine r_freturn dX3_fill_42 rfl ?_
          have h9 := hQ1 ht
          rw [ej] at h9
          exact h9
      · exact absurd (by decide) h21
end Mo6
