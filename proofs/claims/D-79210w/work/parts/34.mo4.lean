set_option maxRecDepth 100000
def q_other (g : Nat → Int32) (t : Nat) (p : Int32) : Int32 := if g (41 + 5 * t) = p then g (42 + 5 * t) else g (41 + 5 * t) + g (42 + 5 * t) - p
def q_at (g : Nat → Int32) (t : Nat) (p : Int32) : Bool := decide (g (41 + 5 * t) = p) || decide (g (42 + 5 * t) = p)
def q_leadF (g : Nat → Int32) (c : Nat) : Nat → Nat → Int32 → Option Int32
  | 0, _, p => some p
  | k + 1, i, p => if q_at g (nat g (109 + 21 * c + i)) p then q_leadF g c k (i + 1) (q_other g (nat g (109 + 21 * c + i)) p) else none
def q_leads (g : Nat → Int32) (c : Nat) : Bool := match q_leadF g c (nat g (106 + 21 * c)) 0 (g (103 + 21 * c)) with
  | none => false
  | some p => decide (g (105 + 21 * c) = 0) || decide (p = g (104 + 21 * c))
def q_bad (g : Nat → Int32) (c k : Nat) : Bool := !(q_class g (g (109 + 21 * c + k)) (g (116 + 21 * c + k)) == g (8 + 6 * nat g (102 + 21 * c)))
def q_badC (g : Nat → Int32) (c : Nat) : Bool := !(q_leads g c) || (find9 (q_bad g c) 0 (nat g (106 + 21 * c))).isSome
def q_cons (g : Nat → Int32) : Bool := (find9 (q_badC g) 0 (nat g 101)).isNone && decide (q_drums g 1 (-1) + q_cuts g + g 2 = q_drums g 2 (-1))
section Mo4
variable {G : Gl} {d m : Nat} {ma : Nat → Nat} {Qr : Option AV → AH → Prop} {Qx : String → Nat → AH → Prop} {H : AH}
theorem s_lengthOf {c : Nat} (hd : 2 ≤ d) (hM : MO H m ma) (hB : GB (gA H 1068 (ma 68))) (hc : c < nat (gA H 1068 (ma 68)) 101) (hQ : Qr (some (vI (q_len (gA H 1068 (ma 68)) c))) H) : AMet G d 0 0 yX3_lengthOf wX3_lengthOf H [vR (some m), vI (nI c)] Qr Qx := by
  have e0 := hM.1
  have hC := hB.2.2.1.2
  have hR := hB.2.1.2
  obtain ⟨-, ⟨hk1, hk2⟩, hst⟩ := hB.2.2.2.2.2 c hc
  unfold q_len at hQ
  obtain ⟨n, hn⟩ : ∃ n, n = nat (gA H 1068 (ma 68)) (106 + 21 * c) := ⟨_, rfl⟩
  rw [← hn] at hk1 hk2 hQ hst
  refine AMet.of (M := mX3_lengthOf) (maxL := 4) rfl rfl (Nat.le_of_ble_eq_true rfl) ?_
  show AW mX3_lengthOf _ _ _ _ _ _ _ 0 [some (vR (some m)), some (vI (nI c)), none, none] []
  refine r_iconst (v := nI 0) dX3_lengthOf_0 (by decide) ?_
  refine r_istore_n (i := 2) dX3_lengthOf_1 rfl (Nat.le_of_ble_eq_true rfl) (by simp only [lset]; rfl) ?_
  refine r_iconst (v := nI 0) dX3_lengthOf_2 (by decide) ?_
  refine r_istore_n (i := 3) dX3_lengthOf_3 rfl (Nat.le_of_ble_eq_true rfl) (by simp only [lset]; rfl) ?_
  have loop : ∀ (k i : Nat), i + k = n → AW mX3_lengthOf G d Qr Qx 0 0 H 4 [some (vR (some m)), some (vI (nI c)), some (vI (sumN (fun k => gA H 1068 (ma 68) (43 + 5 * nat (gA H 1068 (ma 68)) (109 + 21 * c + k))) i)), some (vI (nI i))] [] := by
    intro k
    induction k with
    | zero =>
      intro i hi
      refine r_iload_n (i := 3) dX3_lengthOf_4 rfl rfl ?_
      refine r_aload_n (i := 0) dX3_lengthOf_5 rfl rfl ?_
      refine r_iload_n (i := 1) dX3_lengthOf_6 rfl rfl ?_
      refine r_iconst (v := nI 4) dX3_lengthOf_7 (by decide) ?_
      refine r_callV (As := [_, _]) (mc' := 0) (ms' := 0) dX3_lengthOf_8 k_X3_105 rfl (by first | assumption | (simp only [kd_sI, kd_sR, kd_sA, kd_sQ, kd_sL, kd_sD, ln_sI, ln_sR, ln_sA, ln_sQ, ln_sL, ln_sD, gI_sR, gI_sA, gI_sQ, gI_sL, gI_sD, gR_sI, gR_sA, gR_sQ, gR_sL, gR_sD, gA_sI, gA_sR, gA_sQ, gA_sL, gA_sD, gQ_sI, gQ_sR, gQ_sA, gQ_sL, gQ_sD, gL_sI, gL_sR, gL_sA, gL_sQ, gL_sD]; assumption) | simp [kd_sI, kd_sR, kd_sA, kd_sQ, kd_sL, kd_sD, ln_sI, ln_sR, ln_sA, ln_sQ, ln_sL, ln_sD, gI_sR, gI_sA, gI_sQ, gI_sL, gI_sD, gR_sI, gR_sA, gR_sQ, gR_sL, gR_sD, gA_sI, gA_sR, gA_sQ, gA_sL, gA_sD, gQ_sI, gQ_sR, gQ_sA, gQ_sL, gQ_sD, gL_sI, gL_sR, gL_sA, gL_sQ, gL_sD, kd_nO, kd_nA, *]) (T := TX3) (N := 27) rfl (by first | assumption | omega) (by first | assumption | omega) (by first | assumption | omega) (Nat.le_of_ble_eq_true rfl) ?_
      refine s_cableTold (by omega) hM (by omega) ?_
      rw [show 102 + 21 * c + 4 = 106 + 21 * c by omega, hk1]
      refine r_icmp_ge (tgt := 37) dX3_lengthOf_11 (by decide) (fun h11 => ?_) (fun h11 => ?_)
      · refine r_iload_n (i := 2) dX3_lengthOf_37 rfl rfl ?_
        refine r_ireturn dX3_lengthOf_38 rfl (by first | rfl | assumption | exact vp_nar_int _) ?_
        rw [show n = i by omega] at hQ
        exact hQ
      · exact absurd (nI_le (by omega) (by omega)) h11
    | succ k ih =>
      intro i hi
      refine r_iload_n (i := 3) dX3_lengthOf_4 rfl rfl ?_
      refine r_aload_n (i := 0) dX3_lengthOf_5 rfl rfl ?_
      refine r_iload_n (i := 1) dX3_lengthOf_6 rfl rfl ?_
      refine r_iconst (v := nI 4) dX3_lengthOf_7 (by decide) ?_
      refine r_callV (As := [_, _]) (mc' := 0) (ms' := 0) dX3_lengthOf_8 k_X3_105 rfl (by first | assumption | (simp only [kd_sI, kd_sR, kd_sA, kd_sQ, kd_sL, kd_sD, ln_sI, ln_sR, ln_sA, ln_sQ, ln_sL, ln_sD, gI_sR, gI_sA, gI_sQ, gI_sL, gI_sD, gR_sI, gR_sA, gR_sQ, gR_sL, gR_sD, gA_sI, gA_sR, gA_sQ, gA_sL, gA_sD, gQ_sI, gQ_sR, gQ_sA, gQ_sL, gQ_sD, gL_sI, gL_sR, gL_sA, gL_sQ, gL_sD]; assumption) | simp [kd_sI, kd_sR, kd_sA, kd_sQ, kd_sL, kd_sD, ln_sI, ln_sR, ln_sA, ln_sQ, ln_sL, ln_sD, gI_sR, gI_sA, gI_sQ, gI_sL, gI_sD, gR_sI, gR_sA, gR_sQ, gR_sL, gR_sD, gA_sI, gA_sR, gA_sQ, gA_sL, gA_sD, gQ_sI, gQ_sR, gQ_sA, gQ_sL, gQ_sD, gL_sI, gL_sR, gL_sA, gL_sQ, gL_sD, kd_nO, kd_nA, *]) (T := TX3) (N := 27) rfl (by first | assumption | omega) (by first | assumption | omega) (by first | assumption | omega) (Nat.le_of_ble_eq_true rfl) ?_
      refine s_cableTold (by omega) hM (by omega) ?_
      rw [show 102 + 21 * c + 4 = 106 + 21 * c by omega, hk1]
      refine r_icmp_ge (tgt := 37) dX3_lengthOf_11 (by decide) (fun h11 => ?_) (fun h11 => ?_)
      · exact absurd h11 (nI_ge (by omega) (by omega))
      · refine r_iload_n (i := 2) dX3_lengthOf_14 rfl rfl ?_
        refine r_aload_n (i := 0) dX3_lengthOf_15 rfl rfl ?_
        refine r_aload_n (i := 0) dX3_lengthOf_16 rfl rfl ?_
        refine r_iload_n (i := 1) dX3_lengthOf_17 rfl rfl ?_
        refine r_bipush (v := nI 7) dX3_lengthOf_18 (by decide) ?_
        refine r_iload_n (i := 3) dX3_lengthOf_20 rfl rfl ?_
        refine r_iadd dX3_lengthOf_21 ?_
        try simp only [nI_add, pk_mul, nI_1]
        refine r_callV (As := [_, _]) (mc' := 0) (ms' := 0) dX3_lengthOf_22 k_X3_105 rfl (by first | assumption | (simp only [kd_sI, kd_sR, kd_sA, kd_sQ, kd_sL, kd_sD, ln_sI, ln_sR, ln_sA, ln_sQ, ln_sL, ln_sD, gI_sR, gI_sA, gI_sQ, gI_sL, gI_sD, gR_sI, gR_sA, gR_sQ, gR_sL, gR_sD, gA_sI, gA_sR, gA_sQ, gA_sL, gA_sD, gQ_sI, gQ_sR, gQ_sA, gQ_sL, gQ_sD, gL_sI, gL_sR, gL_sA, gL_sQ, gL_sD]; assumption) | simp [kd_sI, kd_sR, kd_sA, kd_sQ, kd_sL, kd_sD, ln_sI, ln_sR, ln_sA, ln_sQ, ln_sL, ln_sD, gI_sR, gI_sA, gI_sQ, gI_sL, gI_sD, gR_sI, gR_sA, gR_sQ, gR_sL, gR_sD, gA_sI, gA_sR, gA_sQ, gA_sL, gA_sD, gQ_sI, gQ_sR, gQ_sA, gQ_sL, gQ_sD, gL_sI, gL_sR, gL_sA, gL_sQ, gL_sD, kd_nO, kd_nA, *]) (T := TX3) (N := 27) rfl (by first | assumption | omega) (by first | assumption | omega) (by first | assumption | omega) (Nat.le_of_ble_eq_true rfl) ?_
        refine s_cableTold (by omega) hM (by omega) ?_
        rw [show 102 + 21 * c + (7 + i) = 109 + 21 * c + i by omega, (hst i (by omega)).1]
        refine r_iconst (v := nI 2) dX3_lengthOf_25 (by decide) ?_
        refine r_callV (As := [_, _]) (mc' := 0) (ms' := 0) dX3_lengthOf_26 k_X3_121 rfl (by first | assumption | (simp only [kd_sI, kd_sR, kd_sA, kd_sQ, kd_sL, kd_sD, ln_sI, ln_sR, ln_sA, ln_sQ, ln_sL, ln_sD, gI_sR, gI_sA, gI_sQ, gI_sL, gI_sD, gR_sI, gR_sA, gR_sQ, gR_sL, gR_sD, gA_sI, gA_sR, gA_sQ, gA_sL, gA_sD, gQ_sI, gQ_sR, gQ_sA, gQ_sL, gQ_sD, gL_sI, gL_sR, gL_sA, gL_sQ, gL_sD]; assumption) | simp [kd_sI, kd_sR, kd_sA, kd_sQ, kd_sL, kd_sD, ln_sI, ln_sR, ln_sA, ln_sQ, ln_sL, ln_sD, gI_sR, gI_sA, gI_sQ, gI_sL, gI_sD, gR_sI, gR_sA, gR_sQ, gR_sL, gR_sD, gA_sI, gA_sR, gA_sQ, gA_sL, gA_sD, gQ_sI, gQ_sR, gQ_sA, gQ_sL, gQ_sD, gL_sI, gL_sR, gL_sA, gL_sQ, gL_sD, kd_nO, kd_nA, *]) (T := TX3) (N := 27) rfl (by first | assumption | omega) (by first | assumption | omega) (by first | assumption | omega) (Nat.le_of_ble_eq_true rfl) ?_
        have := (hst i (by omega)).2
        refine s_trayTold hM (by omega) ?_
        rw [show 41 + 5 * nat (gA H 1068 (ma 68)) (109 + 21 * c + i) + 2 = 43 + 5 * nat (gA H 1068 (ma 68)) (109 + 21 * c + i) by omega]
        refine r_iadd dX3_lengthOf_29 ?_
        refine r_istore_n (i := 2) dX3_lengthOf_30 rfl (Nat.le_of_ble_eq_true rfl) (by simp only [lset]; rfl) ?_
        refine r_iinc dX3_lengthOf_31 rfl (by first | exact nI_1 _ | rfl) (by simp only [lset]; rfl) ?_
        refine r_goto (tgt := 4) dX3_lengthOf_34 (by decide) ?_
        exact ih (i + 1) (by omega)
  exact loop n 0 (by omega)
theorem s_needs {c : Nat} (hd : 3 ≤ d) (hM : MO H m ma) (hB : GB (gA H 1068 (ma 68))) (hc : c < nat (gA H 1068 (ma 68)) 101) (hQ : Qr (some (vI (q_need (gA H 1068 (ma 68)) c))) H) : AMet G d 0 0 yX3_needs wX3_needs H [vR (some m), vI (nI c)] Qr Qx := by
  have e0 := hM.1
  obtain ⟨e68a, e68b, e68c⟩ : gR H 68 m = some (ma 68) ∧ kd H (ma 68) = 1068 ∧ ln H (ma 68) = 385 := hM.2 68 (by decide)
  refine AMet.of (M := mX3_needs) (maxL := 2) rfl rfl (Nat.le_of_ble_eq_true rfl) ?_
  show AW mX3_needs _ _ _ _ _ _ _ 0 [some (vR (some m)), some (vI (nI c))] []
  refine r_aload_n (i := 0) dX3_needs_0 rfl rfl ?_
  refine r_iload_n (i := 1) dX3_needs_1 rfl rfl ?_
  refine r_callV (As := [_]) (mc' := 0) (ms' := 0) dX3_needs_2 k_X3_178 rfl (by first | assumption | (simp only [kd_sI, kd_sR, kd_sA, kd_sQ, kd_sL, kd_sD, ln_sI, ln_sR, ln_sA, ln_sQ, ln_sL, ln_sD, gI_sR, gI_sA, gI_sQ, gI_sL, gI_sD, gR_sI, gR_sA, gR_sQ, gR_sL, gR_sD, gA_sI, gA_sR, gA_sQ, gA_sL, gA_sD, gQ_sI, gQ_sR, gQ_sA, gQ_sL, gQ_sD, gL_sI, gL_sR, gL_sA, gL_sQ, gL_sD]; assumption) | simp [kd_sI, kd_sR, kd_sA, kd_sQ, kd_sL, kd_sD, ln_sI, ln_sR, ln_sA, ln_sQ, ln_sL, ln_sD, gI_sR, gI_sA, gI_sQ, gI_sL, gI_sD, gR_sI, gR_sA, gR_sQ, gR_sL, gR_sD, gA_sI, gA_sR, gA_sQ, gA_sL, gA_sD, gQ_sI, gQ_sR, gQ_sA, gQ_sL, gQ_sD, gL_sI, gL_sR, gL_sA, gL_sQ, gL_sD, kd_nO, kd_nA, *]) (T := TX3) (N := 27) rfl (by first | assumption | omega) (by first | assumption | omega) (by first | assumption | omega) (Nat.le_of_ble_eq_true rfl) ?_
  refine s_lengthOf (by omega) hM hB hc ?_
  refine r_iconst (v := nI 2) dX3_needs_5 (by decide) ?_
  refine r_aload_n (i := 0) dX3_needs_6 rfl rfl ?_
  refine r_getR dX3_needs_7 fR_X3_7 (by first | assumption | (simp only [kd_sI, kd_sR, kd_sA, kd_sQ, kd_sL, kd_sD, ln_sI, ln_sR, ln_sA, ln_sQ, ln_sL, ln_sD, gI_sR, gI_sA, gI_sQ, gI_sL, gI_sD, gR_sI, gR_sA, gR_sQ, gR_sL, gR_sD, gA_sI, gA_sR, gA_sQ, gA_sL, gA_sD, gQ_sI, gQ_sR, gQ_sA, gQ_sL, gQ_sD, gL_sI, gL_sR, gL_sA, gL_sQ, gL_sD]; assumption) | simp [kd_sI, kd_sR, kd_sA, kd_sQ, kd_sL, kd_sD, ln_sI, ln_sR, ln_sA, ln_sQ, ln_sL, ln_sD, gI_sR, gI_sA, gI_sQ, gI_sL, gI_sD, gR_sI, gR_sA, gR_sQ, gR_sL, gR_sD, gA_sI, gA_sR, gA_sQ, gA_sL, gA_sD, gQ_sI, gQ_sR, gQ_sA, gQ_sL, gQ_sD, gL_sI, gL_sR, gL_sA, gL_sQ, gL_sD, kd_nO, kd_nA, *]) (by first | assumption | exact gI_sIs | exact gR_sRs | with_reducible rfl | (simp only [kd_sI, kd_sR, kd_sA, kd_sQ, kd_sL, kd_sD, ln_sI, ln_sR, ln_sA, ln_sQ, ln_sL, ln_sD, gI_sR, gI_sA, gI_sQ, gI_sL, gI_sD, gR_sI, gR_sA, gR_sQ, gR_sL, gR_sD, gA_sI, gA_sR, gA_sQ, gA_sL, gA_sD, gQ_sI, gQ_sR, gQ_sA, gQ_sL, gQ_sD, gL_sI, gL_sR, gL_sA, gL_sQ, gL_sD]; first | done | assumption | with_reducible rfl) | rfl) ?_
  refine r_iconst (v := nI 1) dX3_needs_10 (by decide) ?_
  refine r_iald dX3_needs_11 (by first | assumption | (simp only [kd_sI, kd_sR, kd_sA, kd_sQ, kd_sL, kd_sD, ln_sI, ln_sR, ln_sA, ln_sQ, ln_sL, ln_sD, gI_sR, gI_sA, gI_sQ, gI_sL, gI_sD, gR_sI, gR_sA, gR_sQ, gR_sL, gR_sD, gA_sI, gA_sR, gA_sQ, gA_sL, gA_sD, gQ_sI, gQ_sR, gQ_sA, gQ_sL, gQ_sD, gL_sI, gL_sR, gL_sA, gL_sQ, gL_sD]; assumption) | simp [kd_sI, kd_sR, kd_sA, kd_sQ, kd_sL, kd_sD, ln_sI, ln_sR, ln_sA, ln_sQ, ln_sL, ln_sD, gI_sR, gI_sA, gI_sQ, gI_sL, gI_sD, gR_sI, gR_sA, gR_sQ, gR_sL, gR_sD, gA_sI, gA_sR, gA_sQ, gA_sL, gA_sD, gQ_sI, gQ_sR, gQ_sA, gQ_sL, gQ_sD, gL_sI, gL_sR, gL_sA, gL_sQ, gL_sD, kd_nO, kd_nA, *]) (by decide) (by first | assumption | exact gI_sIs | exact gR_sRs | with_reducible rfl | (simp only [kd_sI, kd_sR, kd_sA, kd_sQ, kd_sL, kd_sD, ln_sI, ln_sR, ln_sA, ln_sQ, ln_sL, ln_sD, gI_sR, gI_sA, gI_sQ, gI_sL, gI_sD, gR_sI, gR_sA, gR_sQ, gR_sL, gR_sD, gA_sI, gA_sR, gA_sQ, gA_sL, gA_sD, gQ_sI, gQ_sR, gQ_sA, gQ_sL, gQ_sD, gL_sI, gL_sR, gL_sA, gL_sQ, gL_sD]; first | done | assumption | with_reducible rfl) | rfl) (by first | with_reducible rfl | assumption | (simp only [nI_add, pk_mul, nI_1]; with_reducible rfl)) (by first | assumption | omega) (by first | assumption | omega) (by first | assumption | exact gI_sIs | exact gR_sRs | with_reducible rfl | (simp only [kd_sI, kd_sR, kd_sA, kd_sQ, kd_sL, kd_sD, ln_sI, ln_sR, ln_sA, ln_sQ, ln_sL, ln_sD, gI_sR, gI_sA, gI_sQ, gI_sL, gI_sD, gR_sI, gR_sA, gR_sQ, gR_sL, gR_sD, gA_sI, gA_sR, gA_sQ, gA_sL, gA_sD, gQ_sI, gQ_sR, gQ_sA, gQ_sL, gQ_sD, gL_sI, gL_sR, gL_sA, gL_sQ, gL_sD]; first | done | assumption | with_reducible rfl) | rfl) ?_
  refine r_imul dX3_needs_12 ?_
  refine r_iadd dX3_needs_13 ?_
  refine r_ireturn dX3_needs_14 rfl (by first | rfl | assumption | exact vp_nar_int _) ?_
  exact hQ
theorem s_lengthNow {c : Nat} (hd : 4 ≤ d) (hM : MO H m ma) (hB : GB (gA H 1068 (ma 68))) (hc : c < nat (gA H 1068 (ma 68)) 101) (hQ : Qr (some (vI (q_now (gA H 1068 (ma 68)) c))) H) : AMet G d 0 0 yX3_lengthNow wX3_lengthNow H [vR (some m), vI (nI c)] Qr Qx := by
  have e0 := hM.1
  have hC := hB.2.2.1.2
  obtain ⟨e68a, e68b, e68c⟩ : gR H 68 m = some (ma 68) ∧ kd H (ma 68) = 1068 ∧ ln H (ma 68) = 385 := hM.2 68 (by decide)
  unfold q_now at hQ
  refine AMet.of (M := mX3_lengthNow) (maxL := 2) rfl rfl (Nat.le_of_ble_eq_true rfl) ?_
  show AW mX3_lengthNow _ _ _ _ _ _ _ 0 [some (vR (some m)), some (vI (nI c))] []
  refine r_aload_n (i := 0) dX3_lengthNow_0 rfl rfl ?_
  refine r_iload_n (i := 1) dX3_lengthNow_1 rfl rfl ?_
  refine r_iconst (v := nI 3) dX3_lengthNow_2 (by decide) ?_
  refine r_callV (As := [_, _]) (mc' := 0) (ms' := 0) dX3_lengthNow_3 k_X3_105 rfl (by first | assumption | (simp only [kd_sI, kd_sR, kd_sA, kd_sQ, kd_sL, kd_sD, ln_sI, ln_sR, ln_sA, ln_sQ, ln_sL, ln_sD, gI_sR, gI_sA, gI_sQ, gI_sL, gI_sD, gR_sI, gR_sA, gR_sQ, gR_sL, gR_sD, gA_sI, gA_sR, gA_sQ, gA_sL, gA_sD, gQ_sI, gQ_sR, gQ_sA, gQ_sL, gQ_sD, gL_sI, gL_sR, gL_sA, gL_sQ, gL_sD]; assumption) | simp [kd_sI, kd_sR, kd_sA, kd_sQ, kd_sL, kd_sD, ln_sI, ln_sR, ln_sA, ln_sQ, ln_sL, ln_sD, gI_sR, gI_sA, gI_sQ, gI_sL, gI_sD, gR_sI, gR_sA, gR_sQ, gR_sL, gR_sD, gA_sI, gA_sR, gA_sQ, gA_sL, gA_sD, gQ_sI, gQ_sR, gQ_sA, gQ_sL, gQ_sD, gL_sI, gL_sR, gL_sA, gL_sQ, gL_sD, kd_nO, kd_nA, *]) (T := TX3) (N := 27) rfl (by first | assumption | omega) (by first | assumption | omega) (by first | assumption | omega) (Nat.le_of_ble_eq_true rfl) ?_
  refine s_cableTold (by omega) hM (by omega) ?_
  rw [show 102 + 21 * c + 3 = 105 + 21 * c by omega]
  refine r_iconst (v := nI 1) dX3_lengthNow_6 (by decide) ?_
  refine r_icmp_ne (tgt := 18) dX3_lengthNow_7 (by decide) (fun h7 => ?_) (fun h7 => ?_)
  · rw [if_neg h7] at hQ
    refine r_aload_n (i := 0) dX3_lengthNow_18 rfl rfl ?_
    refine r_iload_n (i := 1) dX3_lengthNow_19 rfl rfl ?_
    refine r_iconst (v := nI 5) dX3_lengthNow_20 (by decide) ?_
    refine r_callV (As := [_, _]) (mc' := 0) (ms' := 0) dX3_lengthNow_21 k_X3_105 rfl (by first | assumption | (simp only [kd_sI, kd_sR, kd_sA, kd_sQ, kd_sL, kd_sD, ln_sI, ln_sR, ln_sA, ln_sQ, ln_sL, ln_sD, gI_sR, gI_sA, gI_sQ, gI_sL, gI_sD, gR_sI, gR_sA, gR_sQ, gR_sL, gR_sD, gA_sI, gA_sR, gA_sQ, gA_sL, gA_sD, gQ_sI, gQ_sR, gQ_sA, gQ_sL, gQ_sD, gL_sI, gL_sR, gL_sA, gL_sQ, gL_sD]; assumption) | simp [kd_sI, kd_sR, kd_sA, kd_sQ, kd_sL, kd_sD, ln_sI, ln_sR, ln_sA, ln_sQ, ln_sL, ln_sD, gI_sR, gI_sA, gI_sQ, gI_sL, gI_sD, gR_sI, gR_sA, gR_sQ, gR_sL, gR_sD, gA_sI, gA_sR, gA_sQ, gA_sL, gA_sD, gQ_sI, gQ_sR, gQ_sA, gQ_sL, gQ_sD, gL_sI, gL_sR, gL_sA, gL_sQ, gL_sD, kd_nO, kd_nA, *]) (T := TX3) (N := 27) rfl (by first | assumption | omega) (by first | assumption | omega) (by first | assumption | omega) (Nat.le_of_ble_eq_true rfl) ?_
    refine s_cableTold (by omega) hM (by omega) ?_
    rw [show 102 + 21 * c + 5 = 107 + 21 * c by omega]
    refine r_ireturn dX3_lengthNow_24 rfl (by first | rfl | assumption | exact vp_nar_int _) ?_
    exact hQ
  · rw [if_pos h7] at hQ
    refine r_aload_n (i := 0) dX3_lengthNow_10 rfl rfl ?_
    refine r_iload_n (i := 1) dX3_lengthNow_11 rfl rfl ?_
    refine r_callV (As := [_]) (mc' := 0) (ms' := 0) dX3_lengthNow_12 k_X3_190 rfl (by first | assumption | (simp only [kd_sI, kd_sR, kd_sA, kd_sQ, kd_sL, kd_sD, ln_sI, ln_sR, ln_sA, ln_sQ, ln_sL, ln_sD, gI_sR, gI_sA, gI_sQ, gI_sL, gI_sD, gR_sI, gR_sA, gR_sQ, gR_sL, gR_sD, gA_sI, gA_sR, gA_sQ, gA_sL, gA_sD, gQ_sI, gQ_sR, gQ_sA, gQ_sL, gQ_sD, gL_sI, gL_sR, gL_sA, gL_sQ, gL_sD]; assumption) | simp [kd_sI, kd_sR, kd_sA, kd_sQ, kd_sL, kd_sD, ln_sI, ln_sR, ln_sA, ln_sQ, ln_sL, ln_sD, gI_sR, gI_sA, gI_sQ, gI_sL, gI_sD, gR_sI, gR_sA, gR_sQ, gR_sL, gR_sD, gA_sI, gA_sR, gA_sQ, gA_sL, gA_sD, gQ_sI, gQ_sR, gQ_sA, gQ_sL, gQ_sD, gL_sI, gL_sR, gL_sA, gL_sQ, gL_sD, kd_nO, kd_nA, *]) (T := TX3) (N := 27) rfl (by first | assumption | omega) (by first | assumption | omega) (by first | assumption | omega) (Nat.le_of_ble_eq_true rfl) ?_
    refine s_needs (by omega) hM hB hc ?_
    refine r_goto (tgt := 24) dX3_lengthNow_15 (by decide) ?_
    refine r_ireturn dX3_lengthNow_24 rfl (by first | rfl | assumption | exact vp_nar_int _) ?_
    exact hQ
theorem s_sumOfDrums {w : Nat} {ty : Int32} (hd : 1 ≤ d) (hM : MO H m ma) (hB : GB (gA H 1068 (ma 68))) (hw : w < 3) (hQ : Qr (some (vI (q_drums (gA H 1068 (ma 68)) w ty))) H) : AMet G d 0 0 yX3_sumOfDrums wX3_sumOfDrums H [vR (some m), vI (nI w), vI ty] Qr Qx := by
  have e0 := hM.1
  obtain ⟨e68a, e68b, e68c⟩ : gR H 68 m = some (ma 68) ∧ kd H (ma 68) = 1068 ∧ ln H (ma 68) = 385 := hM.2 68 (by decide)
  obtain ⟨hk1, hk2⟩ := hB.2.2.2.1
  unfold q_drums at hQ
  obtain ⟨n, hn⟩ : ∃ n, n = nat (gA H 1068 (ma 68)) 354 := ⟨_, rfl⟩
  rw [← hn] at hk1 hk2 hQ
  refine AMet.of (M := mX3_sumOfDrums) (maxL := 5) rfl rfl (Nat.le_of_ble_eq_true rfl) ?_
  show AW mX3_sumOfDrums _ _ _ _ _ _ _ 0 [some (vR (some m)), some (vI (nI w)), some (vI ty), none, none] []
  refine r_iconst (v := nI 0) dX3_sumOfDrums_0 (by decide) ?_
  refine r_istore_n (i := 3) dX3_sumOfDrums_1 rfl (Nat.le_of_ble_eq_true rfl) (by simp only [lset]; rfl) ?_
  refine r_iconst (v := nI 0) dX3_sumOfDrums_2 (by decide) ?_
  refine r_istore dX3_sumOfDrums_3 (Nat.le_of_ble_eq_true rfl) (by simp only [lset]; rfl) ?_
  have loop : ∀ (k i : Nat), i + k = n → AW mX3_sumOfDrums G d Qr Qx 0 0 H 5 [some (vR (some m)), some (vI (nI w)), some (vI ty), some (vI (sumN (fun d => if ty < 0 ∨ gA H 1068 (ma 68) (355 + 3 * d) = ty then (if w = 0 then nI 1 else gA H 1068 (ma 68) (355 + 3 * d + w)) else nI 0) i)), some (vI (nI i))] [] := by
    intro k
    induction k with
    | zero =>
      intro i hi
      refine r_iload dX3_sumOfDrums_5 rfl ?_
      refine r_aload_n (i := 0) dX3_sumOfDrums_7 rfl rfl ?_
      refine r_getR dX3_sumOfDrums_8 fR_X3_7 (by first | assumption | (simp only [kd_sI, kd_sR, kd_sA, kd_sQ, kd_sL, kd_sD, ln_sI, ln_sR, ln_sA, ln_sQ, ln_sL, ln_sD, gI_sR, gI_sA, gI_sQ, gI_sL, gI_sD, gR_sI, gR_sA, gR_sQ, gR_sL, gR_sD, gA_sI, gA_sR, gA_sQ, gA_sL, gA_sD, gQ_sI, gQ_sR, gQ_sA, gQ_sL, gQ_sD, gL_sI, gL_sR, gL_sA, gL_sQ, gL_sD]; assumption) | simp [kd_sI, kd_sR, kd_sA, kd_sQ, kd_sL, kd_sD, ln_sI, ln_sR, ln_sA, ln_sQ, ln_sL, ln_sD, gI_sR, gI_sA, gI_sQ, gI_sL, gI_sD, gR_sI, gR_sA, gR_sQ, gR_sL, gR_sD, gA_sI, gA_sR, gA_sQ, gA_sL, gA_sD, gQ_sI, gQ_sR, gQ_sA, gQ_sL, gQ_sD, gL_sI, gL_sR, gL_sA, gL_sQ, gL_sD, kd_nO, kd_nA, *]) (by first | assumption | exact gI_sIs | exact gR_sRs | with_reducible rfl | (simp only [kd_sI, kd_sR, kd_sA, kd_sQ, kd_sL, kd_sD, ln_sI, ln_sR, ln_sA, ln_sQ, ln_sL, ln_sD, gI_sR, gI_sA, gI_sQ, gI_sL, gI_sD, gR_sI, gR_sA, gR_sQ, gR_sL, gR_sD, gA_sI, gA_sR, gA_sQ, gA_sL, gA_sD, gQ_sI, gQ_sR, gQ_sA, gQ_sL, gQ_sD, gL_sI, gL_sR, gL_sA, gL_sQ, gL_sD]; first | done | assumption | with_reducible rfl) | rfl) ?_
      refine r_sipush (v := nI 354) dX3_sumOfDrums_11 (by decide) ?_
      refine r_iald dX3_sumOfDrums_14 (by first | assumption | (simp only [kd_sI, kd_sR, kd_sA, kd_sQ, kd_sL, kd_sD, ln_sI, ln_sR, ln_sA, ln_sQ, ln_sL, ln_sD, gI_sR, gI_sA, gI_sQ, gI_sL, gI_sD, gR_sI, gR_sA, gR_sQ, gR_sL, gR_sD, gA_sI, gA_sR, gA_sQ, gA_sL, gA_sD, gQ_sI, gQ_sR, gQ_sA, gQ_sL, gQ_sD, gL_sI, gL_sR, gL_sA, gL_sQ, gL_sD]; assumption) | simp [kd_sI, kd_sR, kd_sA, kd_sQ, kd_sL, kd_sD, ln_sI, ln_sR, ln_sA, ln_sQ, ln_sL, ln_sD, gI_sR, gI_sA, gI_sQ, gI_sL, gI_sD, gR_sI, gR_sA, gR_sQ, gR_sL, gR_sD, gA_sI, gA_sR, gA_sQ, gA_sL, gA_sD, gQ_sI, gQ_sR, gQ_sA, gQ_sL, gQ_sD, gL_sI, gL_sR, gL_sA, gL_sQ, gL_sD, kd_nO, kd_nA, *]) (by decide) (by first | assumption | exact gI_sIs | exact gR_sRs | with_reducible rfl | (simp only [kd_sI, kd_sR, kd_sA, kd_sQ, kd_sL, kd_sD, ln_sI, ln_sR, ln_sA, ln_sQ, ln_sL, ln_sD, gI_sR, gI_sA, gI_sQ, gI_sL, gI_sD, gR_sI, gR_sA, gR_sQ, gR_sL, gR_sD, gA_sI, gA_sR, gA_sQ, gA_sL, gA_sD, gQ_sI, gQ_sR, gQ_sA, gQ_sL, gQ_sD, gL_sI, gL_sR, gL_sA, gL_sQ, gL_sD]; first | done | assumption | with_reducible rfl) | rfl) (by first | with_reducible rfl | assumption | (simp only [nI_add, pk_mul, nI_1]; with_reducible rfl)) (by first | assumption | omega) (by first | assumption | omega) (by first | assumption | exact gI_sIs | exact gR_sRs | with_reducible rfl | (simp only [kd_sI, kd_sR, kd_sA, kd_sQ, kd_sL, kd_sD, ln_sI, ln_sR, ln_sA, ln_sQ, ln_sL, ln_sD, gI_sR, gI_sA, gI_sQ, gI_sL, gI_sD, gR_sI, gR_sA, gR_sQ, gR_sL, gR_sD, gA_sI, gA_sR, gA_sQ, gA_sL, gA_sD, gQ_sI, gQ_sR, gQ_sA, gQ_sL, gQ_sD, gL_sI, gL_sR, gL_sA, gL_sQ, gL_sD]; first | done | assumption | with_reducible rfl) | rfl) ?_
      refine r_icmp_ge (tgt := 61) dX3_sumOfDrums_15 (by decide) (fun h15 => ?_) (fun h15 => ?_)
      · refine r_iload_n (i := 3) dX3_sumOfDrums_61 rfl rfl ?_
        refine r_ireturn dX3_sumOfDrums_62 rfl (by first | rfl | assumption | exact vp_nar_int _) ?_
        rw [show n = i by omega] at hQ
        exact hQ
      · exact absurd (nI_le (by omega) (by omega)) h15
    | succ k ih =>
      intro i hi
      have nx := ih (i + 1) (by omega)
      rw [sumN] at nx
      have mid : (ty < 0 ∨ gA H 1068 (ma 68) (355 + 3 * i) = ty) → AW mX3_sumOfDrums G d Qr Qx 0 0 H 34 [some (vR (some m)), some (vI (nI w)), some (vI ty), some (vI (sumN (fun d => if ty < 0 ∨ gA H 1068 (ma 68) (355 + 3 * d) = ty then (if w = 0 then nI 1 else gA H 1068 (ma 68) (355 + 3 * d + w)) else nI 0) i)), some (vI (nI i))] [vI (sumN (fun d => if ty < 0 ∨ gA H 1068 (ma 68) (355 + 3 * d) = ty then (if w = 0 then nI 1 else gA H 1068 (ma 68) (355 + 3 * d + w)) else nI 0) i)] := by
        intro hc
        rw [if_pos hc] at nx
        refine r_iload_n (i := 1) dX3_sumOfDrums_34 rfl rfl ?_
        refine r_if_ne (tgt := 42) dX3_sumOfDrums_35 (by decide) (fun h35 => ?_) (fun h35 => ?_)
        · have hw0 : w ≠ 0 := fun q => h35 (by rw [q]; decide)
          rw [if_neg hw0] at nx
          refine r_aload_n (i := 0) dX3_sumOfDrums_42 rfl rfl ?_
          refine r_iload dX3_sumOfDrums_43 rfl ?_
          refine r_iload_n (i := 1) dX3_sumOfDrums_45 rfl rfl ?_
          refine r_callV (As := [_, _]) (mc' := 0) (ms' := 0) dX3_sumOfDrums_46 k_X3_196 rfl (by first | assumption | (simp only [kd_sI, kd_sR, kd_sA, kd_sQ, kd_sL, kd_sD, ln_sI, ln_sR, ln_sA, ln_sQ, ln_sL, ln_sD, gI_sR, gI_sA, gI_sQ, gI_sL, gI_sD, gR_sI, gR_sA, gR_sQ, gR_sL, gR_sD, gA_sI, gA_sR, gA_sQ, gA_sL, gA_sD, gQ_sI, gQ_sR, gQ_sA, gQ_sL, gQ_sD, gL_sI, gL_sR, gL_sA, gL_sQ, gL_sD]; assumption) | simp [kd_sI, kd_sR, kd_sA, kd_sQ, kd_sL, kd_sD, ln_sI, ln_sR, ln_sA, ln_sQ, ln_sL, ln_sD, gI_sR, gI_sA, gI_sQ, gI_sL, gI_sD, gR_sI, gR_sA, gR_sQ, gR_sL, gR_sD, gA_sI, gA_sR, gA_sQ, gA_sL, gA_sD, gQ_sI, gQ_sR, gQ_sA, gQ_sL, gQ_sD, gL_sI, gL_sR, gL_sA, gL_sQ, gL_sD, kd_nO, kd_nA, *]) (T := TX3) (N := 27) rfl (by first | assumption | omega) (by first | assumption | omega) (by first | assumption | omega) (Nat.le_of_ble_eq_true rfl) ?_
          refine s_drumTold hM (by omega) ?_
          refine r_goto (tgt := 53) dX3_sumOfDrums_49 (by decide) ?_
          refine r_iadd dX3_sumOfDrums_53 ?_
          refine r_istore_n (i := 3) dX3_sumOfDrums_54 rfl (Nat.le_of_ble_eq_true rfl) (by simp only [lset]; rfl) ?_
          refine r_iinc dX3_sumOfDrums_55 rfl (by first | exact nI_1 _ | rfl) (by simp only [lset]; rfl) ?_
          refine r_goto (tgt := 5) dX3_sumOfDrums_58 (by decide) ?_
          exact nx
        · have hw0 : w = 0 := by
            rcases Nat.eq_zero_or_pos w with q | q
            · exact q
            · exact absurd h35 (nI_ne0 q (by omega))
          rw [if_pos hw0] at nx
          refine r_iconst (v := nI 1) dX3_sumOfDrums_38 (by decide) ?_
          refine r_goto (tgt := 53) dX3_sumOfDrums_39 (by decide) ?_
          refine r_iadd dX3_sumOfDrums_53 ?_
          refine r_istore_n (i := 3) dX3_sumOfDrums_54 rfl (Nat.le_of_ble_eq_true rfl) (by simp only [lset]; rfl) ?_
          refine r_iinc dX3_sumOfDrums_55 rfl (by first | exact nI_1 _ | rfl) (by simp only [lset]; rfl) ?_
          refine r_goto (tgt := 5) dX3_sumOfDrums_58 (by decide) ?_
          exact nx
      refine r_iload dX3_sumOfDrums_5 rfl ?_
      refine r_aload_n (i := 0) dX3_sumOfDrums_7 rfl rfl ?_
      refine r_getR dX3_sumOfDrums_8 fR_X3_7 (by first | assumption | (simp only [kd_sI, kd_sR, kd_sA, kd_sQ, kd_sL, kd_sD, ln_sI, ln_sR, ln_sA, ln_sQ, ln_sL, ln_sD, gI_sR, gI_sA, gI_sQ, gI_sL, gI_sD, gR_sI, gR_sA, gR_sQ, gR_sL, gR_sD, gA_sI, gA_sR, gA_sQ, gA_sL, gA_sD, gQ_sI, gQ_sR, gQ_sA, gQ_sL, gQ_sD, gL_sI, gL_sR, gL_sA, gL_sQ, gL_sD]; assumption) | simp [kd_sI, kd_sR, kd_sA, kd_sQ, kd_sL, kd_sD, ln_sI, ln_sR, ln_sA, ln_sQ, ln_sL, ln_sD, gI_sR, gI_sA, gI_sQ, gI_sL, gI_sD, gR_sI, gR_sA, gR_sQ, gR_sL, gR_sD, gA_sI, gA_sR, gA_sQ, gA_sL, gA_sD, gQ_sI, gQ_sR, gQ_sA, gQ_sL, gQ_sD, gL_sI, gL_sR, gL_sA, gL_sQ, gL_sD, kd_nO, kd_nA, *]) (by first | assumption | exact gI_sIs | exact gR_sRs | with_reducible rfl | (simp only [kd_sI, kd_sR, kd_sA, kd_sQ, kd_sL, kd_sD, ln_sI, ln_sR, ln_sA, ln_sQ, ln_sL, ln_sD, gI_sR, gI_sA, gI_sQ, gI_sL, gI_sD, gR_sI, gR_sA, gR_sQ, gR_sL, gR_sD, gA_sI, gA_sR, gA_sQ, gA_sL, gA_sD, gQ_sI, gQ_sR, gQ_sA, gQ_sL, gQ_sD, gL_sI, gL_sR, gL_sA, gL_sQ, gL_sD]; first | done | assumption | with_reducible rfl) | rfl) ?_
      refine r_sipush (v := nI 354) dX3_sumOfDrums_11 (by decide) ?_
      refine r_iald dX3_sumOfDrums_14 (by first | assumption | (simp only [kd_sI, kd_sR, kd_sA, kd_sQ, kd_sL, kd_sD, ln_sI, ln_sR, ln_sA, ln_sQ, ln_sL, ln_sD, gI_sR, gI_sA, gI_sQ, gI_sL, gI_sD, gR_sI, gR_sA, gR_sQ, gR_sL, gR_sD, gA_sI, gA_sR, gA_sQ, gA_sL, gA_sD, gQ_sI, gQ_sR, gQ_sA, gQ_sL, gQ_sD, gL_sI, gL_sR, gL_sA, gL_sQ, gL_sD]; assumption) | simp [kd_sI, kd_sR, kd_sA, kd_sQ, kd_sL, kd_sD, ln_sI, ln_sR, ln_sA, ln_sQ, ln_sL, ln_sD, gI_sR, gI_sA, gI_sQ, gI_sL, gI_sD, gR_sI, gR_sA, gR_sQ, gR_sL, gR_sD, gA_sI, gA_sR, gA_sQ, gA_sL, gA_sD, gQ_sI, gQ_sR, gQ_sA, gQ_sL, gQ_sD, gL_sI, gL_sR, gL_sA, gL_sQ, gL_sD, kd_nO, kd_nA, *]) (by decide) (by first | assumption | exact gI_sIs | exact gR_sRs | with_reducible rfl | (simp only [kd_sI, kd_sR, kd_sA, kd_sQ, kd_sL, kd_sD, ln_sI, ln_sR, ln_sA, ln_sQ, ln_sL, ln_sD, gI_sR, gI_sA, gI_sQ, gI_sL, gI_sD, gR_sI, gR_sA, gR_sQ, gR_sL, gR_sD, gA_sI, gA_sR, gA_sQ, gA_sL, gA_sD, gQ_sI, gQ_sR, gQ_sA, gQ_sL, gQ_sD, gL_sI, gL_sR, gL_sA, gL_sQ, gL_sD]; first | done | assumption | with_reducible rfl) | rfl) (by first | with_reducible rfl | assumption | (simp only [nI_add, pk_mul, nI_1]; with_reducible rfl)) (by first | assumption | omega) (by first | assumption | omega) (by first | assumption | exact gI_sIs | exact gR_sRs | with_reducible rfl | (simp only [kd_sI, kd_sR, kd_sA, kd_sQ, kd_sL, kd_sD, ln_sI, ln_sR, ln_sA, ln_sQ, ln_sL, ln_sD, gI_sR, gI_sA, gI_sQ, gI_sL, gI_sD, gR_sI, gR_sA, gR_sQ, gR_sL, gR_sD, gA_sI, gA_sR, gA_sQ, gA_sL, gA_sD, gQ_sI, gQ_sR, gQ_sA, gQ_sL, gQ_sD, gL_sI, gL_sR, gL_sA, gL_sQ, gL_sD]; first | done | assumption | with_reducible rfl) | rfl) ?_
      refine r_icmp_ge (tgt := 61) dX3_sumOfDrums_15 (by decide) (fun h15 => ?_) (fun h15 => ?_)
      · exact absurd h15 (nI_ge (by omega) (by omega))
      · refine r_iload_n (i := 3) dX3_sumOfDrums_18 rfl rfl ?_
        refine r_iload_n (i := 2) dX3_sumOfDrums_19 rfl rfl ?_
        refine r_if_lt (tgt := 34) dX3_sumOfDrums_20 (by decide) (fun h20 => ?_) (fun h20 => ?_)
        · exact mid (Or.inl h20)
        · refine r_aload_n (i := 0) dX3_sumOfDrums_23 rfl rfl ?_
          refine r_iload dX3_sumOfDrums_24 rfl ?_
          refine r_iconst (v := nI 0) dX3_sumOfDrums_26 (by decide) ?_
          refine r_callV (As := [_, _]) (mc' := 0) (ms' := 0) dX3_sumOfDrums_27 k_X3_196 rfl (by first | assumption | (simp only [kd_sI, kd_sR, kd_sA, kd_sQ, kd_sL, kd_sD, ln_sI, ln_sR, ln_sA, ln_sQ, ln_sL, ln_sD, gI_sR, gI_sA, gI_sQ, gI_sL, gI_sD, gR_sI, gR_sA, gR_sQ, gR_sL, gR_sD, gA_sI, gA_sR, gA_sQ, gA_sL, gA_sD, gQ_sI, gQ_sR, gQ_sA, gQ_sL, gQ_sD, gL_sI, gL_sR, gL_sA, gL_sQ, gL_sD]; assumption) | simp [kd_sI, kd_sR, kd_sA, kd_sQ, kd_sL, kd_sD, ln_sI, ln_sR, ln_sA, ln_sQ, ln_sL, ln_sD, gI_sR, gI_sA, gI_sQ, gI_sL, gI_sD, gR_sI, gR_sA, gR_sQ, gR_sL, gR_sD, gA_sI, gA_sR, gA_sQ, gA_sL, gA_sD, gQ_sI, gQ_sR, gQ_sA, gQ_sL, gQ_sD, gL_sI, gL_sR, gL_sA, gL_sQ, gL_sD, kd_nO, kd_nA, *]) (T := TX3) (N := 27) rfl (by first | assumption | omega) (by first | assumption | omega) (by first | assumption | omega) (Nat.le_of_ble_eq_true rfl) ?_
          refine s_drumTold hM (by omega) ?_
          rw [show 355 + 3 * i + 0 = 355 + 3 * i by omega]
          refine r_iload_n (i := 2) dX3_sumOfDrums_30 rfl rfl ?_
          refine r_icmp_ne (tgt := 52) dX3_sumOfDrums_31 (by decide) (fun h31 => ?_) (fun h31 => ?_)
          · rw [if_neg (by rintro (q | q); exact h20 q; exact h31 q)] at nx
            refine r_iconst (v := nI 0) dX3_sumOfDrums_52 (by decide) ?_
            refine r_iadd dX3_sumOfDrums_53 ?_
            refine r_istore_n (i := 3) dX3_sumOfDrums_54 rfl (Nat.le_of_ble_eq_true rfl) (by simp only [lset]; rfl) ?_
            refine r_iinc dX3_sumOfDrums_55 rfl (by first | exact nI_1 _ | rfl) (by simp only [lset]; rfl) ?_
            refine r_goto (tgt := 5) dX3_sumOfDrums_58 (by decide) ?_
            exact nx
          · exact mid (Or.inr h31)
  exact loop n 0 (by omega)
theorem s_cutLengths (hd : 2 ≤ d) (hM : MO H m ma) (hB : GB (gA H 1068 (ma 68))) (hQ : Qr (some (vI (q_cuts (gA H 1068 (ma 68))))) H) : AMet G d 0 0 yX3_cutLengths wX3_cutLengths H [vR (some m)] Qr Qx := by
  have e0 := hM.1
  obtain ⟨e68a, e68b, e68c⟩ : gR H 68 m = some (ma 68) ∧ kd H (ma 68) = 1068 ∧ ln H (ma 68) = 385 := hM.2 68 (by decide)
  obtain ⟨hk1, hk2⟩ := hB.2.2.1
  unfold q_cuts at hQ
  obtain ⟨n, hn⟩ : ∃ n, n = nat (gA H 1068 (ma 68)) 101 := ⟨_, rfl⟩
  rw [← hn] at hk1 hk2 hQ
  refine AMet.of (M := mX3_cutLengths) (maxL := 3) rfl rfl (Nat.le_of_ble_eq_true rfl) ?_
  show AW mX3_cutLengths _ _ _ _ _ _ _ 0 [some (vR (some m)), none, none] []
  refine r_iconst (v := nI 0) dX3_cutLengths_0 (by decide) ?_
  refine r_istore_n (i := 1) dX3_cutLengths_1 rfl (Nat.le_of_ble_eq_true rfl) (by simp only [lset]; rfl) ?_
  refine r_iconst (v := nI 0) dX3_cutLengths_2 (by decide) ?_
  refine r_istore_n (i := 2) dX3_cutLengths_3 rfl (Nat.le_of_ble_eq_true rfl) (by simp only [lset]; rfl) ?_
  have loop : ∀ (k i : Nat), i + k = n → AW mX3_cutLengths G d Qr Qx 0 0 H 4 [some (vR (some m)), some (vI (sumN (fun c => if gA H 1068 (ma 68) (105 + 21 * c) = nI 2 then gA H 1068 (ma 68) (107 + 21 * c) else nI 0) i)), some (vI (nI i))] [] := by
    intro k
    induction k with
    | zero =>
      intro i hi
      refine r_iload_n (i := 2) dX3_cutLengths_4 rfl rfl ?_
      refine r_aload_n (i := 0) dX3_cutLengths_5 rfl rfl ?_
      refine r_getR dX3_cutLengths_6 fR_X3_7 (by first | assumption | (simp only [kd_sI, kd_sR, kd_sA, kd_sQ, kd_sL, kd_sD, ln_sI, ln_sR, ln_sA, ln_sQ, ln_sL, ln_sD, gI_sR, gI_sA, gI_sQ, gI_sL, gI_sD, gR_sI, gR_sA, gR_sQ, gR_sL, gR_sD, gA_sI, gA_sR, gA_sQ, gA_sL, gA_sD, gQ_sI, gQ_sR, gQ_sA, gQ_sL, gQ_sD, gL_sI, gL_sR, gL_sA, gL_sQ, gL_sD]; assumption) | simp [kd_sI, kd_sR, kd_sA, kd_sQ, kd_sL, kd_sD, ln_sI, ln_sR, ln_sA, ln_sQ, ln_sL, ln_sD, gI_sR, gI_sA, gI_sQ, gI_sL, gI_sD, gR_sI, gR_sA, gR_sQ, gR_sL, gR_sD, gA_sI, gA_sR, gA_sQ, gA_sL, gA_sD, gQ_sI, gQ_sR, gQ_sA, gQ_sL, gQ_sD, gL_sI, gL_sR, gL_sA, gL_sQ, gL_sD, kd_nO, kd_nA, *]) (by first | assumption | exact gI_sIs | exact gR_sRs | with_reducible rfl | (simp only [kd_sI, kd_sR, kd_sA, kd_sQ, kd_sL, kd_sD, ln_sI, ln_sR, ln_sA, ln_sQ, ln_sL, ln_sD, gI_sR, gI_sA, gI_sQ, gI_sL, gI_sD, gR_sI, gR_sA, gR_sQ, gR_sL, gR_sD, gA_sI, gA_sR, gA_sQ, gA_sL, gA_sD, gQ_sI, gQ_sR, gQ_sA, gQ_sL, gQ_sD, gL_sI, gL_sR, gL_sA, gL_sQ, gL_sD]; first | done | assumption | with_reducible rfl) | rfl) ?_
      refine r_bipush (v := nI 101) dX3_cutLengths_9 (by decide) ?_
      refine r_iald dX3_cutLengths_11 (by first | assumption | (simp only [kd_sI, kd_sR, kd_sA, kd_sQ, kd_sL, kd_sD, ln_sI, ln_sR, ln_sA, ln_sQ, ln_sL, ln_sD, gI_sR, gI_sA, gI_sQ, gI_sL, gI_sD, gR_sI, gR_sA, gR_sQ, gR_sL, gR_sD, gA_sI, gA_sR, gA_sQ, gA_sL, gA_sD, gQ_sI, gQ_sR, gQ_sA, gQ_sL, gQ_sD, gL_sI, gL_sR, gL_sA, gL_sQ, gL_sD]; assumption) | simp [kd_sI, kd_sR, kd_sA, kd_sQ, kd_sL, kd_sD, ln_sI, ln_sR, ln_sA, ln_sQ, ln_sL, ln_sD, gI_sR, gI_sA, gI_sQ, gI_sL, gI_sD, gR_sI, gR_sA, gR_sQ, gR_sL, gR_sD, gA_sI, gA_sR, gA_sQ, gA_sL, gA_sD, gQ_sI, gQ_sR, gQ_sA, gQ_sL, gQ_sD, gL_sI, gL_sR, gL_sA, gL_sQ, gL_sD, kd_nO, kd_nA, *]) (by decide) (by first | assumption | exact gI_sIs | exact gR_sRs | with_reducible rfl | (simp only [kd_sI, kd_sR, kd_sA, kd_sQ, kd_sL, kd_sD, ln_sI, ln_sR, ln_sA, ln_sQ, ln_sL, ln_sD, gI_sR, gI_sA, gI_sQ, gI_sL, gI_sD, gR_sI, gR_sA, gR_sQ, gR_sL, gR_sD, gA_sI, gA_sR, gA_sQ, gA_sL, gA_sD, gQ_sI, gQ_sR, gQ_sA, gQ_sL, gQ_sD, gL_sI, gL_sR, gL_sA, gL_sQ, gL_sD]; first | done | assumption | with_reducible rfl) | rfl) (by first | with_reducible rfl | assumption | (simp only [nI_add, pk_mul, nI_1]; with_reducible rfl)) (by first | assumption | omega) (by first | assumption | omega) (by first | assumption | exact gI_sIs | exact gR_sRs | with_reducible rfl | (simp only [kd_sI, kd_sR, kd_sA, kd_sQ, kd_sL, kd_sD, ln_sI, ln_sR, ln_sA, ln_sQ, ln_sL, ln_sD, gI_sR, gI_sA, gI_sQ, gI_sL, gI_sD, gR_sI, gR_sA, gR_sQ, gR_sL, gR_sD, gA_sI, gA_sR, gA_sQ, gA_sL, gA_sD, gQ_sI, gQ_sR, gQ_sA, gQ_sL, gQ_sD, gL_sI, gL_sR, gL_sA, gL_sQ, gL_sD]; first | done | assumption | with_reducible rfl) | rfl) ?_
      refine r_icmp_ge (tgt := 44) dX3_cutLengths_12 (by decide) (fun h12 => ?_) (fun h12 => ?_)
      · refine r_iload_n (i := 1) dX3_cutLengths_44 rfl rfl ?_
        refine r_ireturn dX3_cutLengths_45 rfl (by first | rfl | assumption | exact vp_nar_int _) ?_
        rw [show n = i by omega] at hQ
        exact hQ
      · exact absurd (nI_le (by omega) (by omega)) h12
    | succ k ih =>
      intro i hi
      have nx := ih (i + 1) (by omega)
      rw [sumN] at nx
      refine r_iload_n (i := 2) dX3_cutLengths_4 rfl rfl ?_
      refine r_aload_n (i := 0) dX3_cutLengths_5 rfl rfl ?_
      refine r_getR dX3_cutLengths_6 fR_X3_7 (by first | assumption | (simp only [kd_sI, kd_sR, kd_sA, kd_sQ, kd_sL, kd_sD, ln_sI, ln_sR, ln_sA, ln_sQ, ln_sL, ln_sD, gI_sR, gI_sA, gI_sQ, gI_sL, gI_sD, gR_sI, gR_sA, gR_sQ, gR_sL, gR_sD, gA_sI, gA_sR, gA_sQ, gA_sL, gA_sD, gQ_sI, gQ_sR, gQ_sA, gQ_sL, gQ_sD, gL_sI, gL_sR, gL_sA, gL_sQ, gL_sD]; assumption) | simp [kd_sI, kd_sR, kd_sA, kd_sQ, kd_sL, kd_sD, ln_sI, ln_sR, ln_sA, ln_sQ, ln_sL, ln_sD, gI_sR, gI_sA, gI_sQ, gI_sL, gI_sD, gR_sI, gR_sA, gR_sQ, gR_sL, gR_sD, gA_sI, gA_sR, gA_sQ, gA_sL, gA_sD, gQ_sI, gQ_sR, gQ_sA, gQ_sL, gQ_sD, gL_sI, gL_sR, gL_sA, gL_sQ, gL_sD, kd_nO, kd_nA, *]) (by first | assumption | exact gI_sIs | exact gR_sRs | with_reducible rfl | (simp only [kd_sI, kd_sR, kd_sA, kd_sQ, kd_sL, kd_sD, ln_sI, ln_sR, ln_sA, ln_sQ, ln_sL, ln_sD, gI_sR, gI_sA, gI_sQ, gI_sL, gI_sD, gR_sI, gR_sA, gR_sQ, gR_sL, gR_sD, gA_sI, gA_sR, gA_sQ, gA_sL, gA_sD, gQ_sI, gQ_sR, gQ_sA, gQ_sL, gQ_sD, gL_sI, gL_sR, gL_sA, gL_sQ, gL_sD]; first | done | assumption | with_reducible rfl) | rfl) ?_
      refine r_bipush (v := nI 101) dX3_cutLengths_9 (by decide) ?_
      refine r_iald dX3_cutLengths_11 (by first | assumption | (simp only [kd_sI, kd_sR, kd_sA, kd_sQ, kd_sL, kd_sD, ln_sI, ln_sR, ln_sA, ln_sQ, ln_sL, ln_sD, gI_sR, gI_sA, gI_sQ, gI_sL, gI_sD, gR_sI, gR_sA, gR_sQ, gR_sL, gR_sD, gA_sI, gA_sR, gA_sQ, gA_sL, gA_sD, gQ_sI, gQ_sR, gQ_sA, gQ_sL, gQ_sD, gL_sI, gL_sR, gL_sA, gL_sQ, gL_sD]; assumption) | simp [kd_sI, kd_sR, kd_sA, kd_sQ, kd_sL, kd_sD, ln_sI, ln_sR, ln_sA, ln_sQ, ln_sL, ln_sD, gI_sR, gI_sA, gI_sQ, gI_sL, gI_sD, gR_sI, gR_sA, gR_sQ, gR_sL, gR_sD, gA_sI, gA_sR, gA_sQ, gA_sL, gA_sD, gQ_sI, gQ_sR, gQ_sA, gQ_sL, gQ_sD, gL_sI, gL_sR, gL_sA, gL_sQ, gL_sD, kd_nO, kd_nA, *]) (by decide) (by first | assumption | exact gI_sIs | exact gR_sRs | with_reducible rfl | (simp only [kd_sI, kd_sR, kd_sA, kd_sQ, kd_sL, kd_sD, ln_sI, ln_sR, ln_sA, ln_sQ, ln_sL, ln_sD, gI_sR, gI_sA, gI_sQ, gI_sL, gI_sD, gR_sI, gR_sA, gR_sQ, gR_sL, gR_sD, gA_sI, gA_sR, gA_sQ, gA_sL, gA_sD, gQ_sI, gQ_sR, gQ_sA, gQ_sL, gQ_sD, gL_sI, gL_sR, gL_sA, gL_sQ, gL_sD]; first | done | assumption | with_reducible rfl) | rfl) (by first | with_reducible rfl | assumption | (simp only [nI_add, pk_mul, nI_1]; with_reducible rfl)) (by first | assumption | omega) (by first | assumption | omega) (by first | assumption | exact gI_sIs | exact gR_sRs | with_reducible rfl | (simp only [kd_sI, kd_sR, kd_sA, kd_sQ, kd_sL, kd_sD, ln_sI, ln_sR, ln_sA, ln_sQ, ln_sL, ln_sD, gI_sR, gI_sA, gI_sQ, gI_sL, gI_sD, gR_sI, gR_sA, gR_sQ, gR_sL, gR_sD, gA_sI, gA_sR, gA_sQ, gA_sL, gA_sD, gQ_sI, gQ_sR, gQ_sA, gQ_sL, gQ_sD, gL_sI, gL_sR, gL_sA, gL_sQ, gL_sD]; first | done | assumption | with_reducible rfl) | rfl) ?_
      refine r_icmp_ge (tgt := 44) dX3_cutLengths_12 (by decide) (fun h12 => ?_) (fun h12 => ?_)
      · exact absurd h12 (nI_ge (by omega) (by omega))
      · refine r_iload_n (i := 1) dX3_cutLengths_15 rfl rfl ?_
        refine r_aload_n (i := 0) dX3_cutLengths_16 rfl rfl ?_
        refine r_iload_n (i := 2) dX3_cutLengths_17 rfl rfl ?_
        refine r_iconst (v := nI 3) dX3_cutLengths_18 (by decide) ?_
        refine r_callV (As := [_, _]) (mc' := 0) (ms' := 0) dX3_cutLengths_19 k_X3_105 rfl (by first | assumption | (simp only [kd_sI, kd_sR, kd_sA, kd_sQ, kd_sL, kd_sD, ln_sI, ln_sR, ln_sA, ln_sQ, ln_sL, ln_sD, gI_sR, gI_sA, gI_sQ, gI_sL, gI_sD, gR_sI, gR_sA, gR_sQ, gR_sL, gR_sD, gA_sI, gA_sR, gA_sQ, gA_sL, gA_sD, gQ_sI, gQ_sR, gQ_sA, gQ_sL, gQ_sD, gL_sI, gL_sR, gL_sA, gL_sQ, gL_sD]; assumption) | simp [kd_sI, kd_sR, kd_sA, kd_sQ, kd_sL, kd_sD, ln_sI, ln_sR, ln_sA, ln_sQ, ln_sL, ln_sD, gI_sR, gI_sA, gI_sQ, gI_sL, gI_sD, gR_sI, gR_sA, gR_sQ, gR_sL, gR_sD, gA_sI, gA_sR, gA_sQ, gA_sL, gA_sD, gQ_sI, gQ_sR, gQ_sA, gQ_sL, gQ_sD, gL_sI, gL_sR, gL_sA, gL_sQ, gL_sD, kd_nO, kd_nA, *]) (T := TX3) (N := 27) rfl (by first | assumption | omega) (by first | assumption | omega) (by first | assumption | omega) (Nat.le_of_ble_eq_true rfl) ?_
        refine s_cableTold (by omega) hM (by omega) ?_
        rw [show 102 + 21 * i + 3 = 105 + 21 * i by omega]
        refine r_iconst (v := nI 2) dX3_cutLengths_22 (by decide) ?_
        refine r_icmp_ne (tgt := 35) dX3_cutLengths_23 (by decide) (fun h23 => ?_) (fun h23 => ?_)
        · rw [if_neg h23] at nx
          refine r_iconst (v := nI 0) dX3_cutLengths_35 (by decide) ?_
          refine r_iadd dX3_cutLengths_36 ?_
          refine r_istore_n (i := 1) dX3_cutLengths_37 rfl (Nat.le_of_ble_eq_true rfl) (by simp only [lset]; rfl) ?_
          refine r_iinc dX3_cutLengths_38 rfl (by first | exact nI_1 _ | rfl) (by simp only [lset]; rfl) ?_
          refine r_goto (tgt := 4) dX3_cutLengths_41 (by decide) ?_
          exact nx
        · rw [if_pos h23] at nx
          refine r_aload_n (i := 0) dX3_cutLengths_26 rfl rfl ?_
          refine r_iload_n (i := 2) dX3_cutLengths_27 rfl rfl ?_
          refine r_iconst (v := nI 5) dX3_cutLengths_28 (by decide) ?_
          refine r_callV (As := [_, _]) (mc' := 0) (ms' := 0) dX3_cutLengths_29 k_X3_105 rfl (by first | assumption | (simp only [kd_sI, kd_sR, kd_sA, kd_sQ, kd_sL, kd_sD, ln_sI, ln_sR, ln_sA, ln_sQ, ln_sL, ln_sD, gI_sR, gI_sA, gI_sQ, gI_sL, gI_sD, gR_sI, gR_sA, gR_sQ, gR_sL, gR_sD, gA_sI, gA_sR, gA_sQ, gA_sL, gA_sD, gQ_sI, gQ_sR, gQ_sA, gQ_sL, gQ_sD, gL_sI, gL_sR, gL_sA, gL_sQ, gL_sD]; assumption) | simp [kd_sI, kd_sR, kd_sA, kd_sQ, kd_sL, kd_sD, ln_sI, ln_sR, ln_sA, ln_sQ, ln_sL, ln_sD, gI_sR, gI_sA, gI_sQ, gI_sL, gI_sD, gR_sI, gR_sA, gR_sQ, gR_sL, gR_sD, gA_sI, gA_sR, gA_sQ, gA_sL, gA_sD, gQ_sI, gQ_sR, gQ_sA, gQ_sL, gQ_sD, gL_sI, gL_sR, gL_sA, gL_sQ, gL_sD, kd_nO, kd_nA, *]) (T := TX3) (N := 27) rfl (by first | assumption | omega) (by first | assumption | omega) (by first | assumption | omega) (Nat.le_of_ble_eq_true rfl) ?_
          refine s_cableTold (by omega) hM (by omega) ?_
          rw [show 102 + 21 * i + 5 = 107 + 21 * i by omega]
          refine r_goto (tgt := 36) dX3_cutLengths_32 (by decide) ?_
          refine r_iadd dX3_cutLengths_36 ?_
          refine r_istore_n (i := 1) dX3_cutLengths_37 rfl (Nat.le_of_ble_eq_true rfl) (by simp only [lset]; rfl) ?_
          refine r_iinc dX3_cutLengths_38 rfl (by first | exact nI_1 _ | rfl) (by simp only [lset]; rfl) ?_
          refine r_goto (tgt := 4) dX3_cutLengths_41 (by decide) ?_
          exact nx
  exact loop n 0 (by omega)
theorem s_other {t : Nat} {p : Int32} (hd : 1 ≤ d) (hM : MO H m ma) (ht : t < 12) (hQ : Qr (some (vI (q_other (gA H 1068 (ma 68)) t p))) H) : AMet G d 0 0 yX3_other wX3_other H [vR (some m), vI (nI t), vI p] Qr Qx := by
  have e0 := hM.1
  unfold q_other at hQ
  refine AMet.of (M := mX3_other) (maxL := 3) rfl rfl (Nat.le_of_ble_eq_true rfl) ?_
  show AW mX3_other _ _ _ _ _ _ _ 0 [some (vR (some m)), some (vI (nI t)), some (vI p)] []
  refine r_aload_n (i := 0) dX3_other_0 rfl rfl ?_
  refine r_iload_n (i := 1) dX3_other_1 rfl rfl ?_
  refine r_iconst (v := nI 0) dX3_other_2 (by decide) ?_
  refine r_callV (As := [_, _]) (mc' := 0) (ms' := 0) dX3_other_3 k_X3_121 rfl (by first | assumption | (simp only [kd_sI, kd_sR, kd_sA, kd_sQ, kd_sL, kd_sD, ln_sI, ln_sR, ln_sA, ln_sQ, ln_sL, ln_sD, gI_sR, gI_sA, gI_sQ, gI_sL, gI_sD, gR_sI, gR_sA, gR_sQ, gR_sL, gR_sD, gA_sI, gA_sR, gA_sQ, gA_sL, gA_sD, gQ_sI, gQ_sR, gQ_sA, gQ_sL, gQ_sD, gL_sI, gL_sR, gL_sA, gL_sQ, gL_sD]; assumption) | simp [kd_sI, kd_sR, kd_sA, kd_sQ, kd_sL, kd_sD, ln_sI, ln_sR, ln_sA, ln_sQ, ln_sL, ln_sD, gI_sR, gI_sA, gI_sQ, gI_sL, gI_sD, gR_sI, gR_sA, gR_sQ, gR_sL, gR_sD, gA_sI, gA_sR, gA_sQ, gA_sL, gA_sD, gQ_sI, gQ_sR, gQ_sA, gQ_sL, gQ_sD, gL_sI, gL_sR, gL_sA, gL_sQ, gL_sD, kd_nO, kd_nA, *]) (T := TX3) (N := 27) rfl (by first | assumption | omega) (by first | assumption | omega) (by first | assumption | omega) (Nat.le_of_ble_eq_true rfl) ?_
  refine s_trayTold hM (by omega) ?_
  rw [show 41 + 5 * t + 0 = 41 + 5 * t by omega]
  refine r_iload_n (i := 2) dX3_other_6 rfl rfl ?_
  refine r_icmp_ne (tgt := 19) dX3_other_7 (by decide) (fun h7 => ?_) (fun h7 => ?_)
  · rw [if_neg h7] at hQ
    refine r_aload_n (i := 0) dX3_other_19 rfl rfl ?_
    refine r_iload_n (i := 1) dX3_other_20 rfl rfl ?_
    refine r_iconst (v := nI 0) dX3_other_21 (by decide) ?_
    refine r_callV (As := [_, _]) (mc' := 0) (ms' := 0) dX3_other_22 k_X3_121 rfl (by first | assumption | (simp only [kd_sI, kd_sR, kd_sA, kd_sQ, kd_sL, kd_sD, ln_sI, ln_sR, ln_sA, ln_sQ, ln_sL, ln_sD, gI_sR, gI_sA, gI_sQ, gI_sL, gI_sD, gR_sI, gR_sA, gR_sQ, gR_sL, gR_sD, gA_sI, gA_sR, gA_sQ, gA_sL, gA_sD, gQ_sI, gQ_sR, gQ_sA, gQ_sL, gQ_sD, gL_sI, gL_sR, gL_sA, gL_sQ, gL_sD]; assumption) | simp [kd_sI, kd_sR, kd_sA, kd_sQ, kd_sL, kd_sD, ln_sI, ln_sR, ln_sA, ln_sQ, ln_sL, ln_sD, gI_sR, gI_sA, gI_sQ, gI_sL, gI_sD, gR_sI, gR_sA, gR_sQ, gR_sL, gR_sD, gA_sI, gA_sR, gA_sQ, gA_sL, gA_sD, gQ_sI, gQ_sR, gQ_sA, gQ_sL, gQ_sD, gL_sI, gL_sR, gL_sA, gL_sQ, gL_sD, kd_nO, kd_nA, *]) (T := TX3) (N := 27) rfl (by first | assumption | omega) (by first | assumption | omega) (by first | assumption | omega) (Nat.le_of_ble_eq_true rfl) ?_
    refine s_trayTold hM (by omega) ?_
    rw [show 41 + 5 * t + 0 = 41 + 5 * t by omega]
    refine r_aload_n (i := 0) dX3_other_25 rfl rfl ?_
    refine r_iload_n (i := 1) dX3_other_26 rfl rfl ?_
    refine r_iconst (v := nI 1) dX3_other_27 (by decide) ?_
    refine r_callV (As := [_, _]) (mc' := 0) (ms' := 0) dX3_other_28 k_X3_121 rfl (by first | assumption | (simp only [kd_sI, kd_sR, kd_sA, kd_sQ, kd_sL, kd_sD, ln_sI, ln_sR, ln_sA, ln_sQ, ln_sL, ln_sD, gI_sR, gI_sA, gI_sQ, gI_sL, gI_sD, gR_sI, gR_sA, gR_sQ, gR_sL, gR_sD, gA_sI, gA_sR, gA_sQ, gA_sL, gA_sD, gQ_sI, gQ_sR, gQ_sA, gQ_sL, gQ_sD, gL_sI, gL_sR, gL_sA, gL_sQ, gL_sD]; assumption) | simp [kd_sI, kd_sR, kd_sA, kd_sQ, kd_sL, kd_sD, ln_sI, ln_sR, ln_sA, ln_sQ, ln_sL, ln_sD, gI_sR, gI_sA, gI_sQ, gI_sL, gI_sD, gR_sI, gR_sA, gR_sQ, gR_sL, gR_sD, gA_sI, gA_sR, gA_sQ, gA_sL, gA_sD, gQ_sI, gQ_sR, gQ_sA, gQ_sL, gQ_sD, gL_sI, gL_sR, gL_sA, gL_sQ, gL_sD, kd_nO, kd_nA, *]) (T := TX3) (N := 27) rfl (by first | assumption | omega) (by first | assumption | omega) (by first | assumption | omega) (Nat.le_of_ble_eq_true rfl) ?_
    refine s_trayTold hM (by omega) ?_
    rw [show 41 + 5 * t + 1 = 42 + 5 * t by omega]
    refine r_iadd dX3_other_31 ?_
    refine r_iload_n (i := 2) dX3_other_32 rfl rfl ?_
    refine r_isub dX3_other_33 ?_
    refine r_ireturn dX3_other_34 rfl (by first | rfl | assumption | exact vp_nar_int _) ?_
    exact hQ
  · rw [if_pos h7] at hQ
    refine r_aload_n (i := 0) dX3_other_10 rfl rfl ?_
    refine r_iload_n (i := 1) dX3_other_11 rfl rfl ?_
    refine r_iconst (v := nI 1) dX3_other_12 (by decide) ?_
    refine r_callV (As := [_, _]) (mc' := 0) (ms' := 0) dX3_other_13 k_X3_121 rfl (by first | assumption | (simp only [kd_sI, kd_sR, kd_sA, kd_sQ, kd_sL, kd_sD, ln_sI, ln_sR, ln_sA, ln_sQ, ln_sL, ln_sD, gI_sR, gI_sA, gI_sQ, gI_sL, gI_sD, gR_sI, gR_sA, gR_sQ, gR_sL, gR_sD, gA_sI, gA_sR, gA_sQ, gA_sL, gA_sD, gQ_sI, gQ_sR, gQ_sA, gQ_sL, gQ_sD, gL_sI, gL_sR, gL_sA, gL_sQ, gL_sD]; assumption) | simp [kd_sI, kd_sR, kd_sA, kd_sQ, kd_sL, kd_sD, ln_sI, ln_sR, ln_sA, ln_sQ, ln_sL, ln_sD, gI_sR, gI_sA, gI_sQ, gI_sL, gI_sD, gR_sI, gR_sA, gR_sQ, gR_sL, gR_sD, gA_sI, gA_sR, gA_sQ, gA_sL, gA_sD, gQ_sI, gQ_sR, gQ_sA, gQ_sL, gQ_sD, gL_sI, gL_sR, gL_sA, gL_sQ, gL_sD, kd_nO, kd_nA, *]) (T := TX3) (N := 27) rfl (by first | assumption | omega) (by first | assumption | omega) (by first | assumption | omega) (Nat.le_of_ble_eq_true rfl) ?_
    refine s_trayTold hM (by omega) ?_
    rw [show 41 + 5 * t + 1 = 42 + 5 * t by omega]
    refine r_goto (tgt := 34) dX3_other_16 (by decide) ?_
    refine r_ireturn dX3_other_34 rfl (by first | rfl | assumption | exact vp_nar_int _) ?_
    exact hQ
theorem s_isAt {t : Nat} {p : Int32} (hd : 1 ≤ d) (hM : MO H m ma) (ht : t < 12) (hQ : Qr (some (vI (bI (q_at (gA H 1068 (ma 68)) t p)))) H) : AMet G d 0 0 yX3_isAt wX3_isAt H [vR (some m), vI (nI t), vI p] Qr Qx := by
  have e0 := hM.1
  unfold q_at at hQ
  refine AMet.of (M := mX3_isAt) (maxL := 3) rfl rfl (Nat.le_of_ble_eq_true rfl) ?_
  show AW mX3_isAt _ _ _ _ _ _ _ 0 [some (vR (some m)), some (vI (nI t)), some (vI p)] []
  refine r_aload_n (i := 0) dX3_isAt_0 rfl rfl ?_
  refine r_iload_n (i := 1) dX3_isAt_1 rfl rfl ?_
  refine r_iconst (v := nI 0) dX3_isAt_2 (by decide) ?_
  refine r_callV (As := [_, _]) (mc' := 0) (ms' := 0) dX3_isAt_3 k_X3_121 rfl (by first | assumption | (simp only [kd_sI, kd_sR, kd_sA, kd_sQ, kd_sL, kd_sD, ln_sI, ln_sR, ln_sA, ln_sQ, ln_sL, ln_sD, gI_sR, gI_sA, gI_sQ, gI_sL, gI_sD, gR_sI, gR_sA, gR_sQ, gR_sL, gR_sD, gA_sI, gA_sR, gA_sQ, gA_sL, gA_sD, gQ_sI, gQ_sR, gQ_sA, gQ_sL, gQ_sD, gL_sI, gL_sR, gL_sA, gL_sQ, gL_sD]; assumption) | simp [kd_sI, kd_sR, kd_sA, kd_sQ, kd_sL, kd_sD, ln_sI, ln_sR, ln_sA, ln_sQ, ln_sL, ln_sD, gI_sR, gI_sA, gI_sQ, gI_sL, gI_sD, gR_sI, gR_sA, gR_sQ, gR_sL, gR_sD, gA_sI, gA_sR, gA_sQ, gA_sL, gA_sD, gQ_sI, gQ_sR, gQ_sA, gQ_sL, gQ_sD, gL_sI, gL_sR, gL_sA, gL_sQ, gL_sD, kd_nO, kd_nA, *]) (T := TX3) (N := 27) rfl (by first | assumption | omega) (by first | assumption | omega) (by first | assumption | omega) (Nat.le_of_ble_eq_true rfl) ?_
  refine s_trayTold hM (by omega) ?_
  rw [show 41 + 5 * t + 0 = 41 + 5 * t by omega]
  refine r_iload_n (i := 2) dX3_isAt_6 rfl rfl ?_
  refine r_icmp_eq (tgt := 20) dX3_isAt_7 (by decide) (fun h7 => ?_) (fun h7 => ?_)
  · rw [decide_eq_true h7, Bool.true_or] at hQ
    refine r_iconst (v := nI 1) dX3_isAt_20 (by decide) ?_
    refine r_goto (tgt := 25) dX3_isAt_21 (by decide) ?_
    refine r_ireturn dX3_isAt_25 rfl (by first | rfl | assumption | exact vp_nar_int _) ?_
    exact hQ
  · rw [decide_eq_false h7, Bool.false_or] at hQ
    refine r_aload_n (i := 0) dX3_isAt_10 rfl rfl ?_
    refine r_iload_n (i := 1) dX3_isAt_11 rfl rfl ?_
    refine r_iconst (v := nI 1) dX3_isAt_12 (by decide) ?_
    refine r_callV (As := [_, _]) (mc' := 0) (ms' := 0) dX3_isAt_13 k_X3_121 rfl (by first | assumption | (simp only [kd_sI, kd_sR, kd_sA, kd_sQ, kd_sL, kd_sD, ln_sI, ln_sR, ln_sA, ln_sQ, ln_sL, ln_sD, gI_sR, gI_sA, gI_sQ, gI_sL, gI_sD, gR_sI, gR_sA, gR_sQ, gR_sL, gR_sD, gA_sI, gA_sR, gA_sQ, gA_sL, gA_sD, gQ_sI, gQ_sR, gQ_sA, gQ_sL, gQ_sD, gL_sI, gL_sR, gL_sA, gL_sQ, gL_sD]; assumption) | simp [kd_sI, kd_sR, kd_sA, kd_sQ, kd_sL, kd_sD, ln_sI, ln_sR, ln_sA, ln_sQ, ln_sL, ln_sD, gI_sR, gI_sA, gI_sQ, gI_sL, gI_sD, gR_sI, gR_sA, gR_sQ, gR_sL, gR_sD, gA_sI, gA_sR, gA_sQ, gA_sL, gA_sD, gQ_sI, gQ_sR, gQ_sA, gQ_sL, gQ_sD, gL_sI, gL_sR, gL_sA, gL_sQ, gL_sD, kd_nO, kd_nA, *]) (T := TX3) (N := 27) rfl (by first | assumption | omega) (by first | assumption | omega) (by first | assumption | omega) (Nat.le_of_ble_eq_true rfl) ?_
    refine s_trayTold hM (by omega) ?_
    rw [show 41 + 5 * t + 1 = 42 + 5 * t by omega]
    refine r_iload_n (i := 2) dX3_isAt_16 rfl rfl ?_
    refine r_icmp_ne (tgt := 24) dX3_isAt_17 (by decide) (fun h17 => ?_) (fun h17 => ?_)
    · rw [decide_eq_false h17] at hQ
      refine r_iconst (v := nI 0) dX3_isAt_24 (by decide) ?_
      refine r_ireturn dX3_isAt_25 rfl (by first | rfl | assumption | exact vp_nar_int _) ?_
      exact hQ
    · rw [decide_eq_true h17] at hQ
      refine r_iconst (v := nI 1) dX3_isAt_20 (by decide) ?_
      refine r_goto (tgt := 25) dX3_isAt_21 (by decide) ?_
      refine r_ireturn dX3_isAt_25 rfl (by first | rfl | assumption | exact vp_nar_int _) ?_
      exact hQ
theorem s_leadsOn {c : Nat} (hd : 2 ≤ d) (hM : MO H m ma) (hB : GB (gA H 1068 (ma 68))) (hc : c < nat (gA H 1068 (ma 68)) 101) (hQ : Qr (some (vI (bI (q_leads (gA H 1068 (ma 68)) c)))) H) : AMet G d 0 0 yX3_leadsOn wX3_leadsOn H [vR (some m), vI (nI c)] Qr Qx := by
  have e0 := hM.1
  have hC := hB.2.2.1.2
  have hR := hB.2.1.2
  obtain ⟨-, ⟨hk1, hk2⟩, hst⟩ := hB.2.2.2.2.2 c hc
  unfold q_leads at hQ
  obtain ⟨n, hn⟩ : ∃ n, n = nat (gA H 1068 (ma 68)) (106 + 21 * c) := ⟨_, rfl⟩
  rw [← hn] at hk1 hk2 hQ hst
  refine AMet.of (M := mX3_leadsOn) (maxL := 4) rfl rfl (Nat.le_of_ble_eq_true rfl) ?_
  show AW mX3_leadsOn _ _ _ _ _ _ _ 0 [some (vR (some m)), some (vI (nI c)), none, none] []
  refine r_aload_n (i := 0) dX3_leadsOn_0 rfl rfl ?_
  refine r_iload_n (i := 1) dX3_leadsOn_1 rfl rfl ?_
  refine r_iconst (v := nI 1) dX3_leadsOn_2 (by decide) ?_
  refine r_callV (As := [_, _]) (mc' := 0) (ms' := 0) dX3_leadsOn_3 k_X3_105 rfl (by first | assumption | (simp only [kd_sI, kd_sR, kd_sA, kd_sQ, kd_sL, kd_sD, ln_sI, ln_sR, ln_sA, ln_sQ, ln_sL, ln_sD, gI_sR, gI_sA, gI_sQ, gI_sL, gI_sD, gR_sI, gR_sA, gR_sQ, gR_sL, gR_sD, gA_sI, gA_sR, gA_sQ, gA_sL, gA_sD, gQ_sI, gQ_sR, gQ_sA, gQ_sL, gQ_sD, gL_sI, gL_sR, gL_sA, gL_sQ, gL_sD]; assumption) | simp [kd_sI, kd_sR, kd_sA, kd_sQ, kd_sL, kd_sD, ln_sI, ln_sR, ln_sA, ln_sQ, ln_sL, ln_sD, gI_sR, gI_sA, gI_sQ, gI_sL, gI_sD, gR_sI, gR_sA, gR_sQ, gR_sL, gR_sD, gA_sI, gA_sR, gA_sQ, gA_sL, gA_sD, gQ_sI, gQ_sR, gQ_sA, gQ_sL, gQ_sD, gL_sI, gL_sR, gL_sA, gL_sQ, gL_sD, kd_nO, kd_nA, *]) (T := TX3) (N := 27) rfl (by first | assumption | omega) (by first | assumption | omega) (by first | assumption | omega) (Nat.le_of_ble_eq_true rfl) ?_
  refine s_cableTold (by omega) hM (by omega) ?_
  rw [show 102 + 21 * c + 1 = 103 + 21 * c by omega]
  refine r_istore_n (i := 2) dX3_leadsOn_6 rfl (Nat.le_of_ble_eq_true rfl) (by simp only [lset]; rfl) ?_
  refine r_iconst (v := nI 0) dX3_leadsOn_7 (by decide) ?_
  refine r_istore_n (i := 3) dX3_leadsOn_8 rfl (Nat.le_of_ble_eq_true rfl) (by simp only [lset]; rfl) ?_
  have loop : ∀ (k i : Nat) (p : Int32), i + k = n → q_leadF (gA H 1068 (ma 68)) c n 0 (gA H 1068 (ma 68) (103 + 21 * c)) = q_leadF (gA H 1068 (ma 68)) c k i p → AW mX3_leadsOn G d Qr Qx 0 0 H 9 [some (vR (some m)), some (vI (nI c)), some (vI p), some (vI (nI i))] [] := by
    intro k
    induction k with
    | zero =>
      intro i p hi hf
      rw [hf, q_leadF] at hQ
      dsimp only at hQ
      refine r_iload_n (i := 3) dX3_leadsOn_9 rfl rfl ?_
      refine r_aload_n (i := 0) dX3_leadsOn_10 rfl rfl ?_
      refine r_iload_n (i := 1) dX3_leadsOn_11 rfl rfl ?_
      refine r_iconst (v := nI 4) dX3_leadsOn_12 (by decide) ?_
      refine r_callV (As := [_, _]) (mc' := 0) (ms' := 0) dX3_leadsOn_13 k_X3_105 rfl (by first | assumption | (simp only [kd_sI, kd_sR, kd_sA, kd_sQ, kd_sL, kd_sD, ln_sI, ln_sR, ln_sA, ln_sQ, ln_sL, ln_sD, gI_sR, gI_sA, gI_sQ, gI_sL, gI_sD, gR_sI, gR_sA, gR_sQ, gR_sL, gR_sD, gA_sI, gA_sR, gA_sQ, gA_sL, gA_sD, gQ_sI, gQ_sR, gQ_sA, gQ_sL, gQ_sD, gL_sI, gL_sR, gL_sA, gL_sQ, gL_sD]; assumption) | simp [kd_sI, kd_sR, kd_sA, kd_sQ, kd_sL, kd_sD, ln_sI, ln_sR, ln_sA, ln_sQ, ln_sL, ln_sD, gI_sR, gI_sA, gI_sQ, gI_sL, gI_sD, gR_sI, gR_sA, gR_sQ, gR_sL, gR_sD, gA_sI, gA_sR, gA_sQ, gA_sL, gA_sD, gQ_sI, gQ_sR, gQ_sA, gQ_sL, gQ_sD, gL_sI, gL_sR, gL_sA, gL_sQ, gL_sD, kd_nO, kd_nA, *]) (T := TX3) (N := 27) rfl (by first | assumption | omega) (by first | assumption | omega) (by first | assumption | omega) (Nat.le_of_ble_eq_true rfl) ?_
      refine s_cableTold (by omega) hM (by omega) ?_
      rw [show 102 + 21 * c + 4 = 106 + 21 * c by omega, hk1]
      refine r_icmp_ge (tgt := 59) dX3_leadsOn_16 (by decide) (fun h16 => ?_) (fun h16 => ?_)
      · refine r_aload_n (i := 0) dX3_leadsOn_59 rfl rfl ?_
        refine r_iload_n (i := 1) dX3_leadsOn_60 rfl rfl ?_
        refine r_iconst (v := nI 3) dX3_leadsOn_61 (by decide) ?_
        refine r_callV (As := [_, _]) (mc' := 0) (ms' := 0) dX3_leadsOn_62 k_X3_105 rfl (by first | assumption | (simp only [kd_sI, kd_sR, kd_sA, kd_sQ, kd_sL, kd_sD, ln_sI, ln_sR, ln_sA, ln_sQ, ln_sL, ln_sD, gI_sR, gI_sA, gI_sQ, gI_sL, gI_sD, gR_sI, gR_sA, gR_sQ, gR_sL, gR_sD, gA_sI, gA_sR, gA_sQ, gA_sL, gA_sD, gQ_sI, gQ_sR, gQ_sA, gQ_sL, gQ_sD, gL_sI, gL_sR, gL_sA, gL_sQ, gL_sD]; assumption) | simp [kd_sI, kd_sR, kd_sA, kd_sQ, kd_sL, kd_sD, ln_sI, ln_sR, ln_sA, ln_sQ, ln_sL, ln_sD, gI_sR, gI_sA, gI_sQ, gI_sL, gI_sD, gR_sI, gR_sA, gR_sQ, gR_sL, gR_sD, gA_sI, gA_sR, gA_sQ, gA_sL, gA_sD, gQ_sI, gQ_sR, gQ_sA, gQ_sL, gQ_sD, gL_sI, gL_sR, gL_sA, gL_sQ, gL_sD, kd_nO, kd_nA, *]) (T := TX3) (N := 27) rfl (by first | assumption | omega) (by first | assumption | omega) (by first | assumption | omega) (Nat.le_of_ble_eq_true rfl) ?_
        refine s_cableTold (by omega) hM (by omega) ?_
        rw [show 102 + 21 * c + 3 = 105 + 21 * c by omega]
        refine r_if_eq (tgt := 78) dX3_leadsOn_65 (by decide) (fun h65 => ?_) (fun h65 => ?_)
        · rw [decide_eq_true h65, Bool.true_or] at hQ
          refine r_iconst (v := nI 1) dX3_leadsOn_78 (by decide) ?_
          refine r_goto (tgt := 83) dX3_leadsOn_79 (by decide) ?_
          refine r_ireturn dX3_leadsOn_83 rfl (by first | rfl | assumption | exact vp_nar_int _) ?_
          exact hQ
        · rw [decide_eq_false h65, Bool.false_or] at hQ
          refine r_iload_n (i := 2) dX3_leadsOn_68 rfl rfl ?_
          refine r_aload_n (i := 0) dX3_leadsOn_69 rfl rfl ?_
          refine r_iload_n (i := 1) dX3_leadsOn_70 rfl rfl ?_
          refine r_iconst (v := nI 2) dX3_leadsOn_71 (by decide) ?_
          refine r_callV (As := [_, _]) (mc' := 0) (ms' := 0) dX3_leadsOn_72 k_X3_105 rfl (by first | assumption | (simp only [kd_sI, kd_sR, kd_sA, kd_sQ, kd_sL, kd_sD, ln_sI, ln_sR, ln_sA, ln_sQ, ln_sL, ln_sD, gI_sR, gI_sA, gI_sQ, gI_sL, gI_sD, gR_sI, gR_sA, gR_sQ, gR_sL, gR_sD, gA_sI, gA_sR, gA_sQ, gA_sL, gA_sD, gQ_sI, gQ_sR, gQ_sA, gQ_sL, gQ_sD, gL_sI, gL_sR, gL_sA, gL_sQ, gL_sD]; assumption) | simp [kd_sI, kd_sR, kd_sA, kd_sQ, kd_sL, kd_sD, ln_sI, ln_sR, ln_sA, ln_sQ, ln_sL, ln_sD, gI_sR, gI_sA, gI_sQ, gI_sL, gI_sD, gR_sI, gR_sA, gR_sQ, gR_sL, gR_sD, gA_sI, gA_sR, gA_sQ, gA_sL, gA_sD, gQ_sI, gQ_sR, gQ_sA, gQ_sL, gQ_sD, gL_sI, gL_sR, gL_sA, gL_sQ, gL_sD, kd_nO, kd_nA, *]) (T := TX3) (N := 27) rfl (by first | assumption | omega) (by first | assumption | omega) (by first | assumption | omega) (Nat.le_of_ble_eq_true rfl) ?_
          refine s_cableTold (by omega) hM (by omega) ?_
          rw [show 102 + 21 * c + 2 = 104 + 21 * c by omega]
          refine r_icmp_ne (tgt := 82) dX3_leadsOn_75 (by decide) (fun h75 => ?_) (fun h75 => ?_)
          · rw [decide_eq_false h75] at hQ
            refine r_iconst (v := nI 0) dX3_leadsOn_82 (by decide) ?_
            refine r_ireturn dX3_leadsOn_83 rfl (by first | rfl | assumption | exact vp_nar_int _) ?_
            exact hQ
          · rw [decide_eq_true h75] at hQ
            refine r_iconst (v := nI 1) dX3_leadsOn_78 (by decide) ?_
            refine r_goto (tgt := 83) dX3_leadsOn_79 (by decide) ?_
            refine r_ireturn dX3_leadsOn_83 rfl (by first | rfl | assumption | exact vp_nar_int _) ?_
            exact hQ
      · exact absurd (nI_le (by omega) (by omega)) h16
    | succ k ih =>
      intro i p hi hf
      rw [q_leadF] at hf
      have ht := (hst i (by omega)).2
      refine r_iload_n (i := 3) dX3_leadsOn_9 rfl rfl ?_
      refine r_aload_n (i := 0) dX3_leadsOn_10 rfl rfl ?_
      refine r_iload_n (i := 1) dX3_leadsOn_11 rfl rfl ?_
      refine r_iconst (v := nI 4) dX3_leadsOn_12 (by decide) ?_
      refine r_callV (As := [_, _]) (mc' := 0) (ms' := 0) dX3_leadsOn_13 k_X3_105 rfl (by first | assumption | (simp only [kd_sI, kd_sR, kd_sA, kd_sQ, kd_sL, kd_sD, ln_sI, ln_sR, ln_sA, ln_sQ, ln_sL, ln_sD, gI_sR, gI_sA, gI_sQ, gI_sL, gI_sD, gR_sI, gR_sA, gR_sQ, gR_sL, gR_sD, gA_sI, gA_sR, gA_sQ, gA_sL, gA_sD, gQ_sI, gQ_sR, gQ_sA, gQ_sL, gQ_sD, gL_sI, gL_sR, gL_sA, gL_sQ, gL_sD]; assumption) | simp [kd_sI, kd_sR, kd_sA, kd_sQ, kd_sL, kd_sD, ln_sI, ln_sR, ln_sA, ln_sQ, ln_sL, ln_sD, gI_sR, gI_sA, gI_sQ, gI_sL, gI_sD, gR_sI, gR_sA, gR_sQ, gR_sL, gR_sD, gA_sI, gA_sR, gA_sQ, gA_sL, gA_sD, gQ_sI, gQ_sR, gQ_sA, gQ_sL, gQ_sD, gL_sI, gL_sR, gL_sA, gL_sQ, gL_sD, kd_nO, kd_nA, *]) (T := TX3) (N := 27) rfl (by first | assumption | omega) (by first | assumption | omega) (by first | assumption | omega) (Nat.le_of_ble_eq_true rfl) ?_
      refine s_cableTold (by omega) hM (by omega) ?_
      rw [show 102 + 21 * c + 4 = 106 + 21 * c by omega, hk1]
      refine r_icmp_ge (tgt := 59) dX3_leadsOn_16 (by decide) (fun h16 => ?_) (fun h16 => ?_)
      · exact absurd h16 (nI_ge (by omega) (by omega))
      · refine r_aload_n (i := 0) dX3_leadsOn_19 rfl rfl ?_
        refine r_aload_n (i := 0) dX3_leadsOn_20 rfl rfl ?_
        refine r_iload_n (i := 1) dX3_leadsOn_21 rfl rfl ?_
        refine r_bipush (v := nI 7) dX3_leadsOn_22 (by decide) ?_
        refine r_iload_n (i := 3) dX3_leadsOn_24 rfl rfl ?_
        refine r_iadd dX3_leadsOn_25 ?_
        try simp only [nI_add, pk_mul, nI_1]
        refine r_callV (As := [_, _]) (mc' := 0) (ms' := 0) dX3_leadsOn_26 k_X3_105 rfl (by first | assumption | (simp only [kd_sI, kd_sR, kd_sA, kd_sQ, kd_sL, kd_sD, ln_sI, ln_sR, ln_sA, ln_sQ, ln_sL, ln_sD, gI_sR, gI_sA, gI_sQ, gI_sL, gI_sD, gR_sI, gR_sA, gR_sQ, gR_sL, gR_sD, gA_sI, gA_sR, gA_sQ, gA_sL, gA_sD, gQ_sI, gQ_sR, gQ_sA, gQ_sL, gQ_sD, gL_sI, gL_sR, gL_sA, gL_sQ, gL_sD]; assumption) | simp [kd_sI, kd_sR, kd_sA, kd_sQ, kd_sL, kd_sD, ln_sI, ln_sR, ln_sA, ln_sQ, ln_sL, ln_sD, gI_sR, gI_sA, gI_sQ, gI_sL, gI_sD, gR_sI, gR_sA, gR_sQ, gR_sL, gR_sD, gA_sI, gA_sR, gA_sQ, gA_sL, gA_sD, gQ_sI, gQ_sR, gQ_sA, gQ_sL, gQ_sD, gL_sI, gL_sR, gL_sA, gL_sQ, gL_sD, kd_nO, kd_nA, *]) (T := TX3) (N := 27) rfl (by first | assumption | omega) (by first | assumption | omega) (by first | assumption | omega) (Nat.le_of_ble_eq_true rfl) ?_
        refine s_cableTold (by omega) hM (by omega) ?_
        rw [show 102 + 21 * c + (7 + i) = 109 + 21 * c + i by omega, (hst i (by omega)).1]
        refine r_iload_n (i := 2) dX3_leadsOn_29 rfl rfl ?_
        refine r_callV (As := [_, _]) (mc' := 0) (ms' := 0) dX3_leadsOn_30 k_X3_157 rfl (by first | assumption | (simp only [kd_sI, kd_sR, kd_sA, kd_sQ, kd_sL, kd_sD, ln_sI, ln_sR, ln_sA, ln_sQ, ln_sL, ln_sD, gI_sR, gI_sA, gI_sQ, gI_sL, gI_sD, gR_sI, gR_sA, gR_sQ, gR_sL, gR_sD, gA_sI, gA_sR, gA_sQ, gA_sL, gA_sD, gQ_sI, gQ_sR, gQ_sA, gQ_sL, gQ_sD, gL_sI, gL_sR, gL_sA, gL_sQ, gL_sD]; assumption) | simp [kd_sI, kd_sR, kd_sA, kd_sQ, kd_sL, kd_sD, ln_sI, ln_sR, ln_sA, ln_sQ, ln_sL, ln_sD, gI_sR, gI_sA, gI_sQ, gI_sL, gI_sD, gR_sI, gR_sA, gR_sQ, gR_sL, gR_sD, gA_sI, gA_sR, gA_sQ, gA_sL, gA_sD, gQ_sI, gQ_sR, gQ_sA, gQ_sL, gQ_sD, gL_sI, gL_sR, gL_sA, gL_sQ, gL_sD, kd_nO, kd_nA, *]) (T := TX3) (N := 27) rfl (by first | assumption | omega) (by first | assumption | omega) (by first | assumption | omega) (Nat.le_of_ble_eq_true rfl) ?_
        refine s_isAt (by omega) hM (by omega) ?_
        cases hat : q_at (gA H 1068 (ma 68)) (nat (gA H 1068 (ma 68)) (109 + 21 * c + i)) p with
        | false =>
          rw [if_neg (by rw [hat]; decide)] at hf
          rw [hf] at hQ
          refine r_if_ne (tgt := 38) dX3_leadsOn_33 (by decide) (fun h33 => ?_) (fun h33 => ?_)
          · exact absurd rfl h33
          · refine r_iconst (v := nI 0) dX3_leadsOn_36 (by decide) ?_
            refine r_ireturn dX3_leadsOn_37 rfl (by first | rfl | assumption | exact vp_nar_int _) ?_
            exact hQ
        | true =>
          rw [if_pos hat] at hf
          refine r_if_ne (tgt := 38) dX3_leadsOn_33 (by decide) (fun h33 => ?_) (fun h33 => ?_)
          · refine r_aload_n (i := 0) dX3_leadsOn_38 rfl rfl ?_
            refine r_aload_n (i := 0) dX3_leadsOn_39 rfl rfl ?_
            refine r_iload_n (i := 1) dX3_leadsOn_40 rfl rfl ?_
            refine r_bipush (v := nI 7) dX3_leadsOn_41 (by decide) ?_
            refine r_iload_n (i := 3) dX3_leadsOn_43 rfl rfl ?_
            refine r_iadd dX3_leadsOn_44 ?_
            try simp only [nI_add, pk_mul, nI_1]
            refine r_callV (As := [_, _]) (mc' := 0) (ms' := 0) dX3_leadsOn_45 k_X3_105 rfl (by first | assumption | (simp only [kd_sI, kd_sR, kd_sA, kd_sQ, kd_sL, kd_sD, ln_sI, ln_sR, ln_sA, ln_sQ, ln_sL, ln_sD, gI_sR, gI_sA, gI_sQ, gI_sL, gI_sD, gR_sI, gR_sA, gR_sQ, gR_sL, gR_sD, gA_sI, gA_sR, gA_sQ, gA_sL, gA_sD, gQ_sI, gQ_sR, gQ_sA, gQ_sL, gQ_sD, gL_sI, gL_sR, gL_sA, gL_sQ, gL_sD]; assumption) | simp [kd_sI, kd_sR, kd_sA, kd_sQ, kd_sL, kd_sD, ln_sI, ln_sR, ln_sA, ln_sQ, ln_sL, ln_sD, gI_sR, gI_sA, gI_sQ, gI_sL, gI_sD, gR_sI, gR_sA, gR_sQ, gR_sL, gR_sD, gA_sI, gA_sR, gA_sQ, gA_sL, gA_sD, gQ_sI, gQ_sR, gQ_sA, gQ_sL, gQ_sD, gL_sI, gL_sR, gL_sA, gL_sQ, gL_sD, kd_nO, kd_nA, *]) (T := TX3) (N := 27) rfl (by first | assumption | omega) (by first | assumption | omega) (by first | assumption | omega) (Nat.le_of_ble_eq_true rfl) ?_
            refine s_cableTold (by omega) hM (by omega) ?_
            rw [show 102 + 21 * c + (7 + i) = 109 + 21 * c + i by omega, (hst i (by omega)).1]
            refine r_iload_n (i := 2) dX3_leadsOn_48 rfl rfl ?_
            refine r_callV (As := [_, _]) (mc' := 0) (ms' := 0) dX3_leadsOn_49 k_X3_161 rfl (by first | assumption | (simp only [kd_sI, kd_sR, kd_sA, kd_sQ, kd_sL, kd_sD, ln_sI, ln_sR, ln_sA, ln_sQ, ln_sL, ln_sD, gI_sR, gI_sA, gI_sQ, gI_sL, gI_sD, gR_sI, gR_sA, gR_sQ, gR_sL, gR_sD, gA_sI, gA_sR, gA_sQ, gA_sL, gA_sD, gQ_sI, gQ_sR, gQ_sA, gQ_sL, gQ_sD, gL_sI, gL_sR, gL_sA, gL_sQ, gL_sD]; assumption) | simp [kd_sI, kd_sR, kd_sA, kd_sQ, kd_sL, kd_sD, ln_sI, ln_sR, ln_sA, ln_sQ, ln_sL, ln_sD, gI_sR, gI_sA, gI_sQ, gI_sL, gI_sD, gR_sI, gR_sA, gR_sQ, gR_sL, gR_sD, gA_sI, gA_sR, gA_sQ, gA_sL, gA_sD, gQ_sI, gQ_sR, gQ_sA, gQ_sL, gQ_sD, gL_sI, gL_sR, gL_sA, gL_sQ, gL_sD, kd_nO, kd_nA, *]) (T := TX3) (N := 27) rfl (by first | assumption | omega) (by first | assumption | omega) (by first | assumption | omega) (Nat.le_of_ble_eq_true rfl) ?_
            refine s_other (by omega) hM (by omega) ?_
            refine r_istore_n (i := 2) dX3_leadsOn_52 rfl (Nat.le_of_ble_eq_true rfl) (by simp only [lset]; rfl) ?_
            refine r_iinc dX3_leadsOn_53 rfl (by first | exact nI_1 _ | rfl) (by simp only [lset]; rfl) ?_
            refine r_goto (tgt := 9) dX3_leadsOn_56 (by decide) ?_
            exact ih (i + 1) _ (by omega) hf
          · exact absurd h33 (by decide)
  exact loop n 0 _ (by omega) rfl
end Mo4
