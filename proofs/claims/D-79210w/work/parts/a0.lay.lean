set_option maxRecDepth 100000
/-! A CABLE TO CHANGE; IT IS LAID, IT LEAVES -/
section Lay
variable {G : Gl} {d : Nat} {Qr : Option AV → AH → Prop} {Qx : String → Nat → AH → Prop} {H : AH} {O : Nat → Nat} {p t : Nat} {A : PA} {g : Nat → Int32} {eT eR eC eD : Nat} {ty tr tc tf tu ca rl re dr : Nat → Nat} {st : Nat → Nat → Nat}
/-- numbers as a chain -/
theorem of_call {n q : Nat} {H1 : AH} (xs : Nat → Int32) (h0 : 0 < n) (hn : n < 10) (hd : n + 4 ≤ d) (hq : kd H q = 0) (hK1 : Ks (fun _ => False) H H1) (k1 : kd H1 q = 1010) (l1 : ln H1 q = n) (hx : ∀ z, z < n → gA H1 1010 q z = xs z) (hQ : ∀ H' r, Ks (fun _ => False) H H' → ChO H' (fun b => kd H b = 0) ((List.range n).map xs) (some r) → kd H' r = 9 → Qr (some (vR (some r))) H') : AMet G d n (7 * n) yX10_of wX10_of H1 [vI (nI 0), vR (some q)] Qr Qx := by
  refine s_of (k := 1010) (n := n) xs rfl ⟨by decide, by decide⟩ n 0 (by omega) (by omega) (by omega) k1 l1 hx (fun H' r hK hC h9 => ?_)
  have hC' : ChO H' (fun a => kd H1 a = 0) ((List.range n).map xs) r := by
    have e : ((List.range n).map fun x => xs (0 + x)) = (List.range n).map xs := by
      congr 1
      funext x
      rw [Nat.zero_add]
    rw [← e]
    exact hC
  cases r with
  | none =>
    exfalso
    obtain ⟨m, rfl⟩ : ∃ m, n = m + 1 := ⟨n - 1, by omega⟩
    rw [List.range_succ_eq_map, List.map_cons] at hC'
    obtain ⟨a, ha, -⟩ := hC'
    cases ha
  | some a => exact hQ H' a (hK1.tr hK) (hC'.mono (fun b hb => hK1.fr hb)) (h9 a rfl)
theorem pl_change {c s : Int32} (hd : 7 ≤ d) (hW : PW G H p A g eT ty eR tr tc tf tu eC ca rl re st eD dr) (hI9 : IG g) (hQ : isC g c = true → ∀ i, i < nat g 101 → c = nI i → g (105 + 21 * i) = s → Qr (some (vR (some (ca i)))) H) (hX : ∀ H' r l, Ks (fun _ => False) H H' → ChO H' (fun b => kd H b = 0) l (some r) → kd H' r = 9 → ((isC g c = false ∧ l = [nI 1, c]) ∨ (isC g c = true ∧ g (105 + 21 * c.toNatClampNeg) ≠ s ∧ l = [nI 2, g (105 + 21 * c.toNatClampNeg)])) → Qx "CableTrayPlanner$Refusal" r H') : AMet G d 3 16 yX2_cableToChange wX2_cableToChange H [vR (some p), vI c, vI s] Qr Qx := by
  obtain ⟨w1, w8, w9, w10, w11, w12, w13, w14, w15⟩ := hW.1
  have hB := hI9.1
  have h101 := hB.2.2.1
  have hL := hW.2.2.2.1.1
  have kr := hL.1
  refine AMet.of (M := mX2_cableToChange) (maxL := 4) (by first | rfl | decide +kernel) rfl (Nat.le_of_ble_eq_true rfl) ?_
  show AW mX2_cableToChange _ _ _ _ _ _ _ 0 [some (vR (some p)), some (vI c), some (vI s), none] []
  refine r_iload_n (i := 1) dX2_cableToChange_0 rfl rfl ?_
  refine r_i2l dX2_cableToChange_1 ?_
  refine r_lconst dX2_cableToChange_2 rfl ?_
  refine r_aload_n (i := 0) dX2_cableToChange_3 rfl rfl ?_
  refine r_getR dX2_cableToChange_4 fR_X2_28 (by first | assumption | (simp only [kd_sI, kd_sR, kd_sA, kd_sQ, kd_sL, kd_sD, ln_sI, ln_sR, ln_sA, ln_sQ, ln_sL, ln_sD, gI_sR, gI_sA, gI_sQ, gI_sL, gI_sD, gR_sI, gR_sA, gR_sQ, gR_sL, gR_sD, gA_sI, gA_sR, gA_sQ, gA_sL, gA_sD, gQ_sI, gQ_sR, gQ_sA, gQ_sL, gQ_sD, gL_sI, gL_sR, gL_sA, gL_sQ, gL_sD]; assumption) | simp [kd_sI, kd_sR, kd_sA, kd_sQ, kd_sL, kd_sD, ln_sI, ln_sR, ln_sA, ln_sQ, ln_sL, ln_sD, gI_sR, gI_sA, gI_sQ, gI_sL, gI_sD, gR_sI, gR_sA, gR_sQ, gR_sL, gR_sD, gA_sI, gA_sR, gA_sQ, gA_sL, gA_sD, gQ_sI, gQ_sR, gQ_sA, gQ_sL, gQ_sD, gL_sI, gL_sR, gL_sA, gL_sQ, gL_sD, kd_nO, kd_nA, *]) (by first | assumption | exact gI_sIs | exact gR_sRs | with_reducible rfl | (simp only [kd_sI, kd_sR, kd_sA, kd_sQ, kd_sL, kd_sD, ln_sI, ln_sR, ln_sA, ln_sQ, ln_sL, ln_sD, gI_sR, gI_sA, gI_sQ, gI_sL, gI_sD, gR_sI, gR_sA, gR_sQ, gR_sL, gR_sD, gA_sI, gA_sR, gA_sQ, gA_sL, gA_sD, gQ_sI, gQ_sR, gQ_sA, gQ_sL, gQ_sD, gL_sI, gL_sR, gL_sA, gL_sQ, gL_sD]; first | done | assumption | with_reducible rfl) | rfl) ?_
  refine r_callV (As := []) (mc' := 0) (ms' := 0) dX2_cableToChange_7 k_X2_88 rfl (by first | assumption | (simp only [kd_sI, kd_sR, kd_sA, kd_sQ, kd_sL, kd_sD, ln_sI, ln_sR, ln_sA, ln_sQ, ln_sL, ln_sD, gI_sR, gI_sA, gI_sQ, gI_sL, gI_sD, gR_sI, gR_sA, gR_sQ, gR_sL, gR_sD, gA_sI, gA_sR, gA_sQ, gA_sL, gA_sD, gQ_sI, gQ_sR, gQ_sA, gQ_sL, gQ_sD, gL_sI, gL_sR, gL_sA, gL_sQ, gL_sD]; assumption) | simp [kd_sI, kd_sR, kd_sA, kd_sQ, kd_sL, kd_sD, ln_sI, ln_sR, ln_sA, ln_sQ, ln_sL, ln_sD, gI_sR, gI_sA, gI_sQ, gI_sL, gI_sD, gR_sI, gR_sA, gR_sQ, gR_sL, gR_sD, gA_sI, gA_sR, gA_sQ, gA_sL, gA_sD, gQ_sI, gQ_sR, gQ_sA, gQ_sL, gQ_sD, gL_sI, gL_sR, gL_sA, gL_sQ, gL_sD, kd_nO, kd_nA, *]) (T := TJ2) (N := 3) rfl (by first | assumption | omega) (by first | assumption | omega) (by first | assumption | omega) (Nat.le_of_ble_eq_true rfl) ?_
  refine s_size hL.1 hL.2.1 ?_
  show AW mX2_cableToChange G d Qr Qx _ _ H 10 _ _
  refine r_iconst (v := nI 1) dX2_cableToChange_10 (by decide) ?_
  refine r_isub dX2_cableToChange_11 ?_
  refine r_i2l dX2_cableToChange_12 ?_
  refine r_callSN (As := [_, _, _]) (mc' := 0) (ms' := 0) dX2_cableToChange_13 k_X2_102 rfl (by first | assumption | omega) (by first | assumption | omega) (by first | assumption | omega) (Nat.le_of_ble_eq_true rfl) ?_
  refine s_inRange (a := nI 0) (b := nI (nat g 101) - nI 1) (by decide) rfl ?_
  show AW mX2_cableToChange G d Qr Qx _ _ H 16 _ _
  have e9 : inB c (nI 0) (nI (nat g 101) - nI 1) = isC g c := by unfold isC; rw [← h101.1]
  rw [e9]
  cases hc : isC g c with
  | false =>
    refine r_if_ne (tgt := 35) dX2_cableToChange_16 (by decide) (fun h16 => ?_) (fun h16 => ?_)
    · exact absurd rfl h16
    · refine r_iconst (v := nI 0) dX2_cableToChange_19 (by decide) ?_
      refine r_iconst (v := nI 2) dX2_cableToChange_20 (by decide) ?_
      refine r_new_int 1010 dX2_cableToChange_21 q1480 (by decide) (by first | with_reducible rfl | assumption | (simp only [nI_add, pk_mul, nI_1]; with_reducible rfl)) (by first | assumption | omega) (by first | assumption | omega) (by first | assumption | omega) (fun q21 hq21 => ?_)
      have hq : kd H q21 = 0 := hq21
      refine AW.name (fun H0 hH0 => ?_)
      have hK0 : Ks (fun _ => False) H H0 := by rw [hH0]; exact Ks.rf.nA hq
      have kq0 : kd H0 q21 = 1010 := by rw [hH0, kd_nA, if_pos rfl]
      have lq0 : ln H0 q21 = 2 := by rw [hH0, ln_nA, if_pos rfl]
      refine r_dup dX2_cableToChange_23 rfl ?_
      refine r_iconst (v := nI 0) dX2_cableToChange_24 (by decide) ?_
      refine r_iconst (v := nI 1) dX2_cableToChange_25 (by decide) ?_
      refine r_iast dX2_cableToChange_26 (by first | assumption | (simp only [kd_sI, kd_sR, kd_sA, kd_sQ, kd_sL, kd_sD, ln_sI, ln_sR, ln_sA, ln_sQ, ln_sL, ln_sD, gI_sR, gI_sA, gI_sQ, gI_sL, gI_sD, gR_sI, gR_sA, gR_sQ, gR_sL, gR_sD, gA_sI, gA_sR, gA_sQ, gA_sL, gA_sD, gQ_sI, gQ_sR, gQ_sA, gQ_sL, gQ_sD, gL_sI, gL_sR, gL_sA, gL_sQ, gL_sD]; assumption) | simp [kd_sI, kd_sR, kd_sA, kd_sQ, kd_sL, kd_sD, ln_sI, ln_sR, ln_sA, ln_sQ, ln_sL, ln_sD, gI_sR, gI_sA, gI_sQ, gI_sL, gI_sD, gR_sI, gR_sA, gR_sQ, gR_sL, gR_sD, gA_sI, gA_sR, gA_sQ, gA_sL, gA_sD, gQ_sI, gQ_sR, gQ_sA, gQ_sL, gQ_sD, gL_sI, gL_sR, gL_sA, gL_sQ, gL_sD, kd_nO, kd_nA, *]) (by first | decide | assumption) (by first | assumption | exact gI_sIs | exact gR_sRs | with_reducible rfl | (simp only [kd_sI, kd_sR, kd_sA, kd_sQ, kd_sL, kd_sD, ln_sI, ln_sR, ln_sA, ln_sQ, ln_sL, ln_sD, gI_sR, gI_sA, gI_sQ, gI_sL, gI_sD, gR_sI, gR_sA, gR_sQ, gR_sL, gR_sD, gA_sI, gA_sR, gA_sQ, gA_sL, gA_sD, gQ_sI, gQ_sR, gQ_sA, gQ_sL, gQ_sD, gL_sI, gL_sR, gL_sA, gL_sQ, gL_sD]; first | done | assumption | with_reducible rfl) | rfl) (by first | with_reducible rfl | assumption | (simp only [nI_add, pk_mul, nI_1]; with_reducible rfl)) (by first | assumption | omega) (by first | assumption | omega) ?_
      refine r_dup dX2_cableToChange_27 rfl ?_
      refine r_iconst (v := nI 1) dX2_cableToChange_28 (by decide) ?_
      refine r_iload_n (i := 1) dX2_cableToChange_29 rfl rfl ?_
      refine r_iast dX2_cableToChange_30 (by first | assumption | (simp only [kd_sI, kd_sR, kd_sA, kd_sQ, kd_sL, kd_sD, ln_sI, ln_sR, ln_sA, ln_sQ, ln_sL, ln_sD, gI_sR, gI_sA, gI_sQ, gI_sL, gI_sD, gR_sI, gR_sA, gR_sQ, gR_sL, gR_sD, gA_sI, gA_sR, gA_sQ, gA_sL, gA_sD, gQ_sI, gQ_sR, gQ_sA, gQ_sL, gQ_sD, gL_sI, gL_sR, gL_sA, gL_sQ, gL_sD]; assumption) | simp [kd_sI, kd_sR, kd_sA, kd_sQ, kd_sL, kd_sD, ln_sI, ln_sR, ln_sA, ln_sQ, ln_sL, ln_sD, gI_sR, gI_sA, gI_sQ, gI_sL, gI_sD, gR_sI, gR_sA, gR_sQ, gR_sL, gR_sD, gA_sI, gA_sR, gA_sQ, gA_sL, gA_sD, gQ_sI, gQ_sR, gQ_sA, gQ_sL, gQ_sD, gL_sI, gL_sR, gL_sA, gL_sQ, gL_sD, kd_nO, kd_nA, *]) (by first | decide | assumption) (by first | assumption | exact gI_sIs | exact gR_sRs | with_reducible rfl | (simp only [kd_sI, kd_sR, kd_sA, kd_sQ, kd_sL, kd_sD, ln_sI, ln_sR, ln_sA, ln_sQ, ln_sL, ln_sD, gI_sR, gI_sA, gI_sQ, gI_sL, gI_sD, gR_sI, gR_sA, gR_sQ, gR_sL, gR_sD, gA_sI, gA_sR, gA_sQ, gA_sL, gA_sD, gQ_sI, gQ_sR, gQ_sA, gQ_sL, gQ_sD, gL_sI, gL_sR, gL_sA, gL_sQ, gL_sD]; first | done | assumption | with_reducible rfl) | rfl) (by first | with_reducible rfl | assumption | (simp only [nI_add, pk_mul, nI_1]; with_reducible rfl)) (by first | assumption | omega) (by first | assumption | omega) ?_
      refine AW.name (fun H1 hH1 => ?_)
      have hK1 : Ks (fun _ => False) H H1 := by rw [hH1]; exact (hK0.sA (fun h => h hq)).sA (fun h => h hq)
      refine r_callS (As := [_, _]) (mc' := 2) (ms' := 14) dX2_cableToChange_31 k_X2_207 rfl (by first | assumption | omega) (by first | assumption | omega) (by first | assumption | omega) (Nat.le_of_ble_eq_true rfl) ?_
      refine of_call (n := 2) (fun z => if z = 0 then nI 1 else c) (by decide) (by decide) (by omega) hq hK1 (by rw [hH1]; exact kq0) (by rw [hH1]; exact lq0) (fun z hz => ?_) (fun H' r hK hC h9 => ?_)
      · rw [hH1, gA_sAs]
        rcases (show z = 0 ∨ z = 1 by omega) with rfl | rfl
        · rw [upd_n (by decide), gA_sAs]
          exact upd_s
        · exact upd_s
      · show AW mX2_cableToChange G d Qr Qx _ _ H' 34 _ _
        refine r_athrow dX2_cableToChange_34 (by first | assumption | (simp only [kd_sI, kd_sR, kd_sA, kd_sQ, kd_sL, kd_sD, ln_sI, ln_sR, ln_sA, ln_sQ, ln_sL, ln_sD, gI_sR, gI_sA, gI_sQ, gI_sL, gI_sD, gR_sI, gR_sA, gR_sQ, gR_sL, gR_sD, gA_sI, gA_sR, gA_sQ, gA_sL, gA_sD, gQ_sI, gQ_sR, gQ_sA, gQ_sL, gQ_sD, gL_sI, gL_sR, gL_sA, gL_sQ, gL_sD]; assumption) | simp [kd_sI, kd_sR, kd_sA, kd_sQ, kd_sL, kd_sD, ln_sI, ln_sR, ln_sA, ln_sQ, ln_sL, ln_sD, gI_sR, gI_sA, gI_sQ, gI_sL, gI_sD, gR_sI, gR_sA, gR_sQ, gR_sL, gR_sD, gA_sI, gA_sR, gA_sQ, gA_sL, gA_sD, gQ_sI, gQ_sR, gQ_sA, gQ_sL, gQ_sD, gL_sI, gL_sR, gL_sA, gL_sQ, gL_sD, kd_nO, kd_nA, *]) rfl ?_
        exact x_out (by decide) (hX H' r _ hK hC h9 (Or.inl ⟨hc, rfl⟩))
  | true =>
    have hc' := hc
    rw [← e9] at hc'
    obtain ⟨i, hi, rfl, ei⟩ := inB_n hc' (by have := h101.2; omega)
    have hx := hW.2.2.2.1.2 i hi
    have kx := hx.1.1
    have f26 : gI H 26 (ca i) = g (105 + 21 * i) := hx.1.2.2.2.2.1.trans (cv_at i _ (by omega))
    refine r_if_ne (tgt := 35) dX2_cableToChange_16 (by decide) (fun h16 => ?_) (fun h16 => ?_)
    · refine r_aload_n (i := 0) dX2_cableToChange_35 rfl rfl ?_
      refine r_getR dX2_cableToChange_36 fR_X2_28 (by first | assumption | (simp only [kd_sI, kd_sR, kd_sA, kd_sQ, kd_sL, kd_sD, ln_sI, ln_sR, ln_sA, ln_sQ, ln_sL, ln_sD, gI_sR, gI_sA, gI_sQ, gI_sL, gI_sD, gR_sI, gR_sA, gR_sQ, gR_sL, gR_sD, gA_sI, gA_sR, gA_sQ, gA_sL, gA_sD, gQ_sI, gQ_sR, gQ_sA, gQ_sL, gQ_sD, gL_sI, gL_sR, gL_sA, gL_sQ, gL_sD]; assumption) | simp [kd_sI, kd_sR, kd_sA, kd_sQ, kd_sL, kd_sD, ln_sI, ln_sR, ln_sA, ln_sQ, ln_sL, ln_sD, gI_sR, gI_sA, gI_sQ, gI_sL, gI_sD, gR_sI, gR_sA, gR_sQ, gR_sL, gR_sD, gA_sI, gA_sR, gA_sQ, gA_sL, gA_sD, gQ_sI, gQ_sR, gQ_sA, gQ_sL, gQ_sD, gL_sI, gL_sR, gL_sA, gL_sQ, gL_sD, kd_nO, kd_nA, *]) (by first | assumption | exact gI_sIs | exact gR_sRs | with_reducible rfl | (simp only [kd_sI, kd_sR, kd_sA, kd_sQ, kd_sL, kd_sD, ln_sI, ln_sR, ln_sA, ln_sQ, ln_sL, ln_sD, gI_sR, gI_sA, gI_sQ, gI_sL, gI_sD, gR_sI, gR_sA, gR_sQ, gR_sL, gR_sD, gA_sI, gA_sR, gA_sQ, gA_sL, gA_sD, gQ_sI, gQ_sR, gQ_sA, gQ_sL, gQ_sD, gL_sI, gL_sR, gL_sA, gL_sQ, gL_sD]; first | done | assumption | with_reducible rfl) | rfl) ?_
      refine r_iload_n (i := 1) dX2_cableToChange_39 rfl rfl ?_
      refine r_callV (As := [_]) (mc' := 0) (ms' := 0) dX2_cableToChange_40 k_X2_110 rfl (by first | assumption | (simp only [kd_sI, kd_sR, kd_sA, kd_sQ, kd_sL, kd_sD, ln_sI, ln_sR, ln_sA, ln_sQ, ln_sL, ln_sD, gI_sR, gI_sA, gI_sQ, gI_sL, gI_sD, gR_sI, gR_sA, gR_sQ, gR_sL, gR_sD, gA_sI, gA_sR, gA_sQ, gA_sL, gA_sD, gQ_sI, gQ_sR, gQ_sA, gQ_sL, gQ_sD, gL_sI, gL_sR, gL_sA, gL_sQ, gL_sD]; assumption) | simp [kd_sI, kd_sR, kd_sA, kd_sQ, kd_sL, kd_sD, ln_sI, ln_sR, ln_sA, ln_sQ, ln_sL, ln_sD, gI_sR, gI_sA, gI_sQ, gI_sL, gI_sD, gR_sI, gR_sA, gR_sQ, gR_sL, gR_sD, gA_sI, gA_sR, gA_sQ, gA_sL, gA_sD, gQ_sI, gQ_sR, gQ_sA, gQ_sL, gQ_sD, gL_sI, gL_sR, gL_sA, gL_sQ, gL_sD, kd_nO, kd_nA, *]) (T := TJ2) (N := 3) rfl (by first | assumption | omega) (by first | assumption | omega) (by first | assumption | omega) (Nat.le_of_ble_eq_true rfl) ?_
      refine s_get (by omega) hL hi (by have := h101.2; omega) ?_
      show AW mX2_cableToChange G d Qr Qx _ _ H 43 _ _
      refine r_cast dX2_cableToChange_43 (by first | assumption | (simp only [kd_sI, kd_sR, kd_sA, kd_sQ, kd_sL, kd_sD, ln_sI, ln_sR, ln_sA, ln_sQ, ln_sL, ln_sD, gI_sR, gI_sA, gI_sQ, gI_sL, gI_sD, gR_sI, gR_sA, gR_sQ, gR_sL, gR_sD, gA_sI, gA_sR, gA_sQ, gA_sL, gA_sD, gQ_sI, gQ_sR, gQ_sA, gQ_sL, gQ_sD, gL_sI, gL_sR, gL_sA, gL_sQ, gL_sD]; assumption) | simp [kd_sI, kd_sR, kd_sA, kd_sQ, kd_sL, kd_sD, ln_sI, ln_sR, ln_sA, ln_sQ, ln_sL, ln_sD, gI_sR, gI_sA, gI_sQ, gI_sL, gI_sD, gR_sI, gR_sA, gR_sQ, gR_sL, gR_sD, gA_sI, gA_sR, gA_sQ, gA_sL, gA_sD, gQ_sI, gQ_sR, gQ_sA, gQ_sL, gQ_sD, gL_sI, gL_sR, gL_sA, gL_sQ, gL_sD, kd_nO, kd_nA, *]) (T := TX5) (N := 7) rfl q1222 (Or.inl rfl) ?_
      refine r_astore_n (i := 3) dX2_cableToChange_46 rfl (Nat.le_of_ble_eq_true rfl) (by simp only [lset]; rfl) ?_
      refine r_aload_n (i := 3) dX2_cableToChange_47 rfl rfl ?_
      refine r_getI dX2_cableToChange_48 fR_X2_211 (by first | assumption | (simp only [kd_sI, kd_sR, kd_sA, kd_sQ, kd_sL, kd_sD, ln_sI, ln_sR, ln_sA, ln_sQ, ln_sL, ln_sD, gI_sR, gI_sA, gI_sQ, gI_sL, gI_sD, gR_sI, gR_sA, gR_sQ, gR_sL, gR_sD, gA_sI, gA_sR, gA_sQ, gA_sL, gA_sD, gQ_sI, gQ_sR, gQ_sA, gQ_sL, gQ_sD, gL_sI, gL_sR, gL_sA, gL_sQ, gL_sD]; assumption) | simp [kd_sI, kd_sR, kd_sA, kd_sQ, kd_sL, kd_sD, ln_sI, ln_sR, ln_sA, ln_sQ, ln_sL, ln_sD, gI_sR, gI_sA, gI_sQ, gI_sL, gI_sD, gR_sI, gR_sA, gR_sQ, gR_sL, gR_sD, gA_sI, gA_sR, gA_sQ, gA_sL, gA_sD, gQ_sI, gQ_sR, gQ_sA, gQ_sL, gQ_sD, gL_sI, gL_sR, gL_sA, gL_sQ, gL_sD, kd_nO, kd_nA, *]) (by first | assumption | exact gI_sIs | exact gR_sRs | with_reducible rfl | (simp only [kd_sI, kd_sR, kd_sA, kd_sQ, kd_sL, kd_sD, ln_sI, ln_sR, ln_sA, ln_sQ, ln_sL, ln_sD, gI_sR, gI_sA, gI_sQ, gI_sL, gI_sD, gR_sI, gR_sA, gR_sQ, gR_sL, gR_sD, gA_sI, gA_sR, gA_sQ, gA_sL, gA_sD, gQ_sI, gQ_sR, gQ_sA, gQ_sL, gQ_sD, gL_sI, gL_sR, gL_sA, gL_sQ, gL_sD]; first | done | assumption | with_reducible rfl) | rfl) ?_
      refine r_iload_n (i := 2) dX2_cableToChange_51 rfl rfl ?_
      refine r_icmp_eq (tgt := 74) dX2_cableToChange_52 (by decide) (fun h52 => ?_) (fun h52 => ?_)
      · refine r_aload_n (i := 3) dX2_cableToChange_74 rfl rfl ?_
        refine r_areturn dX2_cableToChange_75 rfl (by first | exact Or.inl ⟨_, rfl⟩ | exact Or.inr ⟨_, rfl⟩) ?_
        exact hQ hc i hi rfl (by simpa using h52)
      · have h52' : g (105 + 21 * i) ≠ s := by simpa using h52
        refine r_iconst (v := nI 0) dX2_cableToChange_55 (by decide) ?_
        refine r_iconst (v := nI 2) dX2_cableToChange_56 (by decide) ?_
        refine r_new_int 1010 dX2_cableToChange_57 q1480 (by decide) (by first | with_reducible rfl | assumption | (simp only [nI_add, pk_mul, nI_1]; with_reducible rfl)) (by first | assumption | omega) (by first | assumption | omega) (by first | assumption | omega) (fun q57 hq57 => ?_)
        have hq : kd H q57 = 0 := hq57
        refine AW.name (fun H0 hH0 => ?_)
        have hK0 : Ks (fun _ => False) H H0 := by rw [hH0]; exact Ks.rf.nA hq
        have ex := hK0.at (a := ca i) (by rw [kx]; decide) (fun h => h)
        have kx0 : kd H0 (ca i) = 4 := by rw [at_kd ex]; exact kx
        have f0 : gI H0 26 (ca i) = g (105 + 21 * i) := by rw [at_gI ex]; exact f26
        have kq0 : kd H0 q57 = 1010 := by rw [hH0, kd_nA, if_pos rfl]
        have lq0 : ln H0 q57 = 2 := by rw [hH0, ln_nA, if_pos rfl]
        refine r_dup dX2_cableToChange_59 rfl ?_
        refine r_iconst (v := nI 0) dX2_cableToChange_60 (by decide) ?_
        refine r_iconst (v := nI 2) dX2_cableToChange_61 (by decide) ?_
        refine r_iast dX2_cableToChange_62 (by first | assumption | (simp only [kd_sI, kd_sR, kd_sA, kd_sQ, kd_sL, kd_sD, ln_sI, ln_sR, ln_sA, ln_sQ, ln_sL, ln_sD, gI_sR, gI_sA, gI_sQ, gI_sL, gI_sD, gR_sI, gR_sA, gR_sQ, gR_sL, gR_sD, gA_sI, gA_sR, gA_sQ, gA_sL, gA_sD, gQ_sI, gQ_sR, gQ_sA, gQ_sL, gQ_sD, gL_sI, gL_sR, gL_sA, gL_sQ, gL_sD]; assumption) | simp [kd_sI, kd_sR, kd_sA, kd_sQ, kd_sL, kd_sD, ln_sI, ln_sR, ln_sA, ln_sQ, ln_sL, ln_sD, gI_sR, gI_sA, gI_sQ, gI_sL, gI_sD, gR_sI, gR_sA, gR_sQ, gR_sL, gR_sD, gA_sI, gA_sR, gA_sQ, gA_sL, gA_sD, gQ_sI, gQ_sR, gQ_sA, gQ_sL, gQ_sD, gL_sI, gL_sR, gL_sA, gL_sQ, gL_sD, kd_nO, kd_nA, *]) (by first | decide | assumption) (by first | assumption | exact gI_sIs | exact gR_sRs | with_reducible rfl | (simp only [kd_sI, kd_sR, kd_sA, kd_sQ, kd_sL, kd_sD, ln_sI, ln_sR, ln_sA, ln_sQ, ln_sL, ln_sD, gI_sR, gI_sA, gI_sQ, gI_sL, gI_sD, gR_sI, gR_sA, gR_sQ, gR_sL, gR_sD, gA_sI, gA_sR, gA_sQ, gA_sL, gA_sD, gQ_sI, gQ_sR, gQ_sA, gQ_sL, gQ_sD, gL_sI, gL_sR, gL_sA, gL_sQ, gL_sD]; first | done | assumption | with_reducible rfl) | rfl) (by first | with_reducible rfl | assumption | (simp only [nI_add, pk_mul, nI_1]; with_reducible rfl)) (by first | assumption | omega) (by first | assumption | omega) ?_
        refine r_dup dX2_cableToChange_63 rfl ?_
        refine r_iconst (v := nI 1) dX2_cableToChange_64 (by decide) ?_
        refine r_aload_n (i := 3) dX2_cableToChange_65 rfl rfl ?_
        refine r_getI dX2_cableToChange_66 fR_X2_211 (by first | assumption | (simp only [kd_sI, kd_sR, kd_sA, kd_sQ, kd_sL, kd_sD, ln_sI, ln_sR, ln_sA, ln_sQ, ln_sL, ln_sD, gI_sR, gI_sA, gI_sQ, gI_sL, gI_sD, gR_sI, gR_sA, gR_sQ, gR_sL, gR_sD, gA_sI, gA_sR, gA_sQ, gA_sL, gA_sD, gQ_sI, gQ_sR, gQ_sA, gQ_sL, gQ_sD, gL_sI, gL_sR, gL_sA, gL_sQ, gL_sD]; assumption) | simp [kd_sI, kd_sR, kd_sA, kd_sQ, kd_sL, kd_sD, ln_sI, ln_sR, ln_sA, ln_sQ, ln_sL, ln_sD, gI_sR, gI_sA, gI_sQ, gI_sL, gI_sD, gR_sI, gR_sA, gR_sQ, gR_sL, gR_sD, gA_sI, gA_sR, gA_sQ, gA_sL, gA_sD, gQ_sI, gQ_sR, gQ_sA, gQ_sL, gQ_sD, gL_sI, gL_sR, gL_sA, gL_sQ, gL_sD, kd_nO, kd_nA, *]) (by first | assumption | exact gI_sIs | exact gR_sRs | with_reducible rfl | (simp only [kd_sI, kd_sR, kd_sA, kd_sQ, kd_sL, kd_sD, ln_sI, ln_sR, ln_sA, ln_sQ, ln_sL, ln_sD, gI_sR, gI_sA, gI_sQ, gI_sL, gI_sD, gR_sI, gR_sA, gR_sQ, gR_sL, gR_sD, gA_sI, gA_sR, gA_sQ, gA_sL, gA_sD, gQ_sI, gQ_sR, gQ_sA, gQ_sL, gQ_sD, gL_sI, gL_sR, gL_sA, gL_sQ, gL_sD]; first | done | assumption | with_reducible rfl) | rfl) ?_
        refine r_iast dX2_cableToChange_69 (by first | assumption | (simp only [kd_sI, kd_sR, kd_sA, kd_sQ, kd_sL, kd_sD, ln_sI, ln_sR, ln_sA, ln_sQ, ln_sL, ln_sD, gI_sR, gI_sA, gI_sQ, gI_sL, gI_sD, gR_sI, gR_sA, gR_sQ, gR_sL, gR_sD, gA_sI, gA_sR, gA_sQ, gA_sL, gA_sD, gQ_sI, gQ_sR, gQ_sA, gQ_sL, gQ_sD, gL_sI, gL_sR, gL_sA, gL_sQ, gL_sD]; assumption) | simp [kd_sI, kd_sR, kd_sA, kd_sQ, kd_sL, kd_sD, ln_sI, ln_sR, ln_sA, ln_sQ, ln_sL, ln_sD, gI_sR, gI_sA, gI_sQ, gI_sL, gI_sD, gR_sI, gR_sA, gR_sQ, gR_sL, gR_sD, gA_sI, gA_sR, gA_sQ, gA_sL, gA_sD, gQ_sI, gQ_sR, gQ_sA, gQ_sL, gQ_sD, gL_sI, gL_sR, gL_sA, gL_sQ, gL_sD, kd_nO, kd_nA, *]) (by first | decide | assumption) (by first | assumption | exact gI_sIs | exact gR_sRs | with_reducible rfl | (simp only [kd_sI, kd_sR, kd_sA, kd_sQ, kd_sL, kd_sD, ln_sI, ln_sR, ln_sA, ln_sQ, ln_sL, ln_sD, gI_sR, gI_sA, gI_sQ, gI_sL, gI_sD, gR_sI, gR_sA, gR_sQ, gR_sL, gR_sD, gA_sI, gA_sR, gA_sQ, gA_sL, gA_sD, gQ_sI, gQ_sR, gQ_sA, gQ_sL, gQ_sD, gL_sI, gL_sR, gL_sA, gL_sQ, gL_sD]; first | done | assumption | with_reducible rfl) | rfl) (by first | with_reducible rfl | assumption | (simp only [nI_add, pk_mul, nI_1]; with_reducible rfl)) (by first | assumption | omega) (by first | assumption | omega) ?_
        refine AW.name (fun H1 hH1 => ?_)
        have hK1 : Ks (fun _ => False) H H1 := by rw [hH1]; exact (hK0.sA (fun h => h hq)).sA (fun h => h hq)
        refine r_callS (As := [_, _]) (mc' := 2) (ms' := 14) dX2_cableToChange_70 k_X2_207 rfl (by first | assumption | omega) (by first | assumption | omega) (by first | assumption | omega) (Nat.le_of_ble_eq_true rfl) ?_
        refine of_call (n := 2) (fun z => if z = 0 then nI 2 else g (105 + 21 * i)) (by decide) (by decide) (by omega) hq hK1 (by rw [hH1]; exact kq0) (by rw [hH1]; exact lq0) (fun z hz => ?_) (fun H' r hK hC h9 => ?_)
        · rw [hH1, gA_sAs]
          rcases (show z = 0 ∨ z = 1 by omega) with rfl | rfl
          · rw [upd_n (by decide), gA_sAs]
            exact upd_s
          · exact upd_s
        · show AW mX2_cableToChange G d Qr Qx _ _ H' 73 _ _
          refine r_athrow dX2_cableToChange_73 (by first | assumption | (simp only [kd_sI, kd_sR, kd_sA, kd_sQ, kd_sL, kd_sD, ln_sI, ln_sR, ln_sA, ln_sQ, ln_sL, ln_sD, gI_sR, gI_sA, gI_sQ, gI_sL, gI_sD, gR_sI, gR_sA, gR_sQ, gR_sL, gR_sD, gA_sI, gA_sR, gA_sQ, gA_sL, gA_sD, gQ_sI, gQ_sR, gQ_sA, gQ_sL, gQ_sD, gL_sI, gL_sR, gL_sA, gL_sQ, gL_sD]; assumption) | simp [kd_sI, kd_sR, kd_sA, kd_sQ, kd_sL, kd_sD, ln_sI, ln_sR, ln_sA, ln_sQ, ln_sL, ln_sD, gI_sR, gI_sA, gI_sQ, gI_sL, gI_sD, gR_sI, gR_sA, gR_sQ, gR_sL, gR_sD, gA_sI, gA_sR, gA_sQ, gA_sL, gA_sD, gQ_sI, gQ_sR, gQ_sA, gQ_sL, gQ_sD, gL_sI, gL_sR, gL_sA, gL_sQ, gL_sD, kd_nO, kd_nA, *]) rfl ?_
          refine x_out (by decide) (hX H' r _ hK hC h9 (Or.inr ⟨hc, ?_, ?_⟩))
          · rw [ei]
            exact h52'
          · rw [ei]
            rfl
    · exact absurd h16 (by decide)
end Lay
