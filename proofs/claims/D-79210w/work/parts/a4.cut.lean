set_option maxRecDepth 100000
/-! A CABLE IS CUT -/
section Cut
variable {G : Gl} {d : Nat} {Qr : Option AV → AH → Prop} {Qx : String → Nat → AH → Prop} {H : AH} {O : Nat → Nat} {p t : Nat} {A : PA} {g : Nat → Int32} {eT eR eC eD : Nat} {ty nm nd tr tc tf tu ca rl re dr : Nat → Nat} {st : Nat → Nat → Nat}
theorem cut_out {c f : Nat} {need : Int32} : ∀ i, i ≠ 105 + 21 * c → i ≠ 107 + 21 * c → i ≠ 108 + 21 * c → i ≠ 356 + 3 * f → cutG g c f need i = g i := by
  intro i h1 h2 h3 h4
  unfold cutG
  rw [upd_n (by omega), upd_n (by omega), upd_n (by omega), upd_n (by omega)]
theorem tv_cut {c f : Nat} {need : Int32} (hB : GB g) (hc : c < nat g 101) {t : Nat} (ht : t < nat g 40) : tvOf (cutG g c f need) t = tvOf g t := by
  have out := cut_out (g := g) (c := c) (f := f) (need := need)
  have h101 := hB.2.2.1.2
  have h40 := hB.2.1.2
  have h3 := hB.1.2
  have n101 : nat (cutG g c f need) 101 = nat g 101 := nat_eq (out 101 (by omega) (by omega) (by omega) (by omega))
  have qi : ∀ c', c' < nat g 101 → ∀ t k, q_in (cutG g c f need) t k c' = q_in g t k c' := fun c' hc' t k => q_in_c (hB.2.2.2.2.2 c' hc').2.1.2 (out _ (by omega) (by omega) (by omega) (by omega)) (fun w h7 hw => out _ (by omega) (by omega) (by omega) (by omega))
  have hty : ∀ c', c' < nat g 101 → (cutG g c f need) (8 + 6 * nat (cutG g c f need) (102 + 21 * c')) = g (8 + 6 * nat g (102 + 21 * c')) ∧ (cutG g c f need) (9 + 6 * nat (cutG g c f need) (102 + 21 * c')) = g (9 + 6 * nat g (102 + 21 * c')) := by
    intro c' hc'
    have e : nat (cutG g c f need) (102 + 21 * c') = nat g (102 + 21 * c') := nat_eq (out _ (by omega) (by omega) (by omega) (by omega))
    have h1 := (hB.2.2.2.2.2 c' hc').1.2
    rw [e]
    exact ⟨out _ (by omega) (by omega) (by omega) (by omega), out _ (by omega) (by omega) (by omega) (by omega)⟩
  have ts : ∀ k, _ := fun k => tri_same (g := g) (g' := cutG g c f need) (t := nI t) (k := k) (c0 := c) n101 hty (fun c' h1 _ => qi c' h1 _ _) (qi c hc _ _).symm
  exact tv_of (fun w hw => out _ (by omega) (by omega) (by omega) (by omega)) (fun k => (ts k).1) (fun k => (ts k).2.1) (fun k => (ts k).2.2)
theorem pl_greatest {y need : Int32} (hd : 3 ≤ d) (hW : PW G H p A g eT ty eR tr tc tf tu eC ca rl re st eD dr) (hI9 : IG g) (hQ : ∀ H', Ks (fun _ => False) H H' → Qr (some (vI (cutN g y need (nat g 354)).2)) H') : AMet G d 1 4 yX2_greatestRest wX2_greatestRest H [vR (some p), vI y] Qr Qx := by
  obtain ⟨w1, w8, w9, w10, w11, w12, w13, w14, w15⟩ := hW.1
  have hB := hI9.1
  have h40 := hB.2.1.2
  have h101 := hB.2.2.1.2
  have h354 := hB.2.2.2.1.2
  have h3 := hB.1.2
  refine AMet.of (M := mX2_greatestRest) (maxL := 5) (by first | rfl | decide +kernel) rfl (Nat.le_of_ble_eq_true rfl) ?_
  show AW mX2_greatestRest _ _ _ _ _ _ _ 0 [some (vR (some p)), some (vI y), none, none, none] []
  have kr := (hW.2.2.2.2.1).1
  refine r_iconst (v := -1) dX2_greatestRest_0 (by decide) ?_
  refine r_istore_n (i := 2) dX2_greatestRest_1 rfl (Nat.le_of_ble_eq_true rfl) (by simp only [lset]; rfl) ?_
  refine r_aload_n (i := 0) dX2_greatestRest_2 rfl rfl ?_
  refine r_getR dX2_greatestRest_3 fR_X2_31 (by first | assumption | (simp only [kd_sI, kd_sR, kd_sA, kd_sQ, kd_sL, kd_sD, ln_sI, ln_sR, ln_sA, ln_sQ, ln_sL, ln_sD, gI_sR, gI_sA, gI_sQ, gI_sL, gI_sD, gR_sI, gR_sA, gR_sQ, gR_sL, gR_sD, gA_sI, gA_sR, gA_sQ, gA_sL, gA_sD, gQ_sI, gQ_sR, gQ_sA, gQ_sL, gQ_sD, gL_sI, gL_sR, gL_sA, gL_sQ, gL_sD]; assumption) | simp [kd_sI, kd_sR, kd_sA, kd_sQ, kd_sL, kd_sD, ln_sI, ln_sR, ln_sA, ln_sQ, ln_sL, ln_sD, gI_sR, gI_sA, gI_sQ, gI_sL, gI_sD, gR_sI, gR_sA, gR_sQ, gR_sL, gR_sD, gA_sI, gA_sR, gA_sQ, gA_sL, gA_sD, gQ_sI, gQ_sR, gQ_sA, gQ_sL, gQ_sD, gL_sI, gL_sR, gL_sA, gL_sQ, gL_sD, kd_nO, kd_nA, *]) (by first | assumption | exact gI_sIs | exact gR_sRs | with_reducible rfl | (simp only [kd_sI, kd_sR, kd_sA, kd_sQ, kd_sL, kd_sD, ln_sI, ln_sR, ln_sA, ln_sQ, ln_sL, ln_sD, gI_sR, gI_sA, gI_sQ, gI_sL, gI_sD, gR_sI, gR_sA, gR_sQ, gR_sL, gR_sD, gA_sI, gA_sR, gA_sQ, gA_sL, gA_sD, gQ_sI, gQ_sR, gQ_sA, gQ_sL, gQ_sD, gL_sI, gL_sR, gL_sA, gL_sQ, gL_sD]; first | done | assumption | with_reducible rfl) | rfl) ?_
  refine r_callV (As := []) (mc' := 1) (ms' := 4) dX2_greatestRest_6 k_X2_42 rfl (by first | assumption | (simp only [kd_sI, kd_sR, kd_sA, kd_sQ, kd_sL, kd_sD, ln_sI, ln_sR, ln_sA, ln_sQ, ln_sL, ln_sD, gI_sR, gI_sA, gI_sQ, gI_sL, gI_sD, gR_sI, gR_sA, gR_sQ, gR_sL, gR_sD, gA_sI, gA_sR, gA_sQ, gA_sL, gA_sD, gQ_sI, gQ_sR, gQ_sA, gQ_sL, gQ_sD, gL_sI, gL_sR, gL_sA, gL_sQ, gL_sD]; assumption) | simp [kd_sI, kd_sR, kd_sA, kd_sQ, kd_sL, kd_sD, ln_sI, ln_sR, ln_sA, ln_sQ, ln_sL, ln_sD, gI_sR, gI_sA, gI_sQ, gI_sL, gI_sD, gR_sI, gR_sA, gR_sQ, gR_sL, gR_sD, gA_sI, gA_sR, gA_sQ, gA_sL, gA_sD, gQ_sI, gQ_sR, gQ_sA, gQ_sL, gQ_sD, gL_sI, gL_sR, gL_sA, gL_sQ, gL_sD, kd_nO, kd_nA, *]) (T := TJ2) (N := 3) rfl (by first | assumption | omega) (by first | assumption | omega) (by first | assumption | omega) (Nat.le_of_ble_eq_true rfl) ?_
  refine s_iterator (by omega) kr (fun H1 it hit hK1 hI1 => ?_)
  show AW mX2_greatestRest G d Qr Qx _ _ H1 9 _ _
  refine r_astore_n (i := 3) dX2_greatestRest_9 rfl (Nat.le_of_ble_eq_true rfl) (by simp only [lset]; rfl) ?_
  have loop : ∀ (k i rc rs : Nat) (H2 : AH) (l : Option AV) , i + k = nat g 354 → Ks (fun _ => False) H H2 → (ItS H2 it (A.dr) i ∧ kd H it = 0) → AW mX2_greatestRest G d Qr Qx rc rs H2 10 [some (vR (some p)), some (vI y), some (vI (cutN g y need i).2), some (vR (some it)), l] [] := by
    intro k
    induction k with
    | zero =>
      intro i rc rs H2 l hi hK hI
      have hW2 := hW.k0 hK
      have ki := hI.1.1
      have hin : i = nat g 354 := by omega
      refine r_aload_n (i := 3) dX2_greatestRest_10 rfl rfl ?_
      refine r_callF (As := []) (mc' := 0) (ms' := 0) dX2_greatestRest_11 k_X2_46_J14 rfl (by first | assumption | (simp only [kd_sI, kd_sR, kd_sA, kd_sQ, kd_sL, kd_sD, ln_sI, ln_sR, ln_sA, ln_sQ, ln_sL, ln_sD, gI_sR, gI_sA, gI_sQ, gI_sL, gI_sD, gR_sI, gR_sA, gR_sQ, gR_sL, gR_sD, gA_sI, gA_sR, gA_sQ, gA_sL, gA_sD, gQ_sI, gQ_sR, gQ_sA, gQ_sL, gQ_sD, gL_sI, gL_sR, gL_sA, gL_sQ, gL_sD]; assumption) | simp [kd_sI, kd_sR, kd_sA, kd_sQ, kd_sL, kd_sD, ln_sI, ln_sR, ln_sA, ln_sQ, ln_sL, ln_sD, gI_sR, gI_sA, gI_sQ, gI_sL, gI_sD, gR_sI, gR_sA, gR_sQ, gR_sL, gR_sD, gA_sI, gA_sR, gA_sQ, gA_sL, gA_sD, gQ_sI, gQ_sR, gQ_sA, gQ_sL, gQ_sD, gL_sI, gL_sR, gL_sA, gL_sQ, gL_sD, kd_nO, kd_nA, *]) (T := TJ14) (N := 4) rfl (by first | assumption | omega) (by first | assumption | omega) (by first | assumption | omega) (Nat.le_of_ble_eq_true rfl) ?_
      refine s_hasNext hI.1 (hW2.2.2.2.2.1).1 (hW2.2.2.2.2.1).2.1 (by omega) (by omega) ?_
      rw [if_pos (by omega)]
      refine r_if_eq (tgt := 56) dX2_greatestRest_16 (by decide) (fun h16 => ?_) (fun h16 => ?_)
      · refine r_iload_n (i := 2) dX2_greatestRest_56 rfl rfl ?_
        refine r_ireturn dX2_greatestRest_57 rfl (by first | rfl | assumption | exact vp_nar_int _ | exact pk_nc _) ?_
        rw [← hin] at hQ
        exact hQ H2 hK
      · exact absurd rfl h16
    | succ k ih =>
      intro i rc rs H2 l hi hK hI
      have hW2 := hW.k0 hK
      have ki := hI.1.1
      refine r_aload_n (i := 3) dX2_greatestRest_10 rfl rfl ?_
      refine r_callF (As := []) (mc' := 0) (ms' := 0) dX2_greatestRest_11 k_X2_46_J14 rfl (by first | assumption | (simp only [kd_sI, kd_sR, kd_sA, kd_sQ, kd_sL, kd_sD, ln_sI, ln_sR, ln_sA, ln_sQ, ln_sL, ln_sD, gI_sR, gI_sA, gI_sQ, gI_sL, gI_sD, gR_sI, gR_sA, gR_sQ, gR_sL, gR_sD, gA_sI, gA_sR, gA_sQ, gA_sL, gA_sD, gQ_sI, gQ_sR, gQ_sA, gQ_sL, gQ_sD, gL_sI, gL_sR, gL_sA, gL_sQ, gL_sD]; assumption) | simp [kd_sI, kd_sR, kd_sA, kd_sQ, kd_sL, kd_sD, ln_sI, ln_sR, ln_sA, ln_sQ, ln_sL, ln_sD, gI_sR, gI_sA, gI_sQ, gI_sL, gI_sD, gR_sI, gR_sA, gR_sQ, gR_sL, gR_sD, gA_sI, gA_sR, gA_sQ, gA_sL, gA_sD, gQ_sI, gQ_sR, gQ_sA, gQ_sL, gQ_sD, gL_sI, gL_sR, gL_sA, gL_sQ, gL_sD, kd_nO, kd_nA, *]) (T := TJ14) (N := 4) rfl (by first | assumption | omega) (by first | assumption | omega) (by first | assumption | omega) (Nat.le_of_ble_eq_true rfl) ?_
      refine s_hasNext hI.1 (hW2.2.2.2.2.1).1 (hW2.2.2.2.2.1).2.1 (by omega) (by omega) ?_
      rw [if_neg (by omega)]
      refine r_if_eq (tgt := 56) dX2_greatestRest_16 (by decide) (fun h16 => ?_) (fun h16 => ?_)
      · exact absurd h16 (by decide)
      · refine r_aload_n (i := 3) dX2_greatestRest_19 rfl rfl ?_
        refine r_callF (As := []) (mc' := 0) (ms' := 0) dX2_greatestRest_20 k_X2_52_J14 rfl (by first | assumption | (simp only [kd_sI, kd_sR, kd_sA, kd_sQ, kd_sL, kd_sD, ln_sI, ln_sR, ln_sA, ln_sQ, ln_sL, ln_sD, gI_sR, gI_sA, gI_sQ, gI_sL, gI_sD, gR_sI, gR_sA, gR_sQ, gR_sL, gR_sD, gA_sI, gA_sR, gA_sQ, gA_sL, gA_sD, gQ_sI, gQ_sR, gQ_sA, gQ_sL, gQ_sD, gL_sI, gL_sR, gL_sA, gL_sQ, gL_sD]; assumption) | simp [kd_sI, kd_sR, kd_sA, kd_sQ, kd_sL, kd_sD, ln_sI, ln_sR, ln_sA, ln_sQ, ln_sL, ln_sD, gI_sR, gI_sA, gI_sQ, gI_sL, gI_sD, gR_sI, gR_sA, gR_sQ, gR_sL, gR_sD, gA_sI, gA_sR, gA_sQ, gA_sL, gA_sD, gQ_sI, gQ_sR, gQ_sA, gQ_sL, gQ_sD, gL_sI, gL_sR, gL_sA, gL_sQ, gL_sD, kd_nO, kd_nA, *]) (T := TJ14) (N := 4) rfl (by first | assumption | omega) (by first | assumption | omega) (by first | assumption | omega) (Nat.le_of_ble_eq_true rfl) ?_
        refine s_next (by omega) hI.1 (hW2.2.2.2.2.1) (by omega) (by omega) (fun H3 hK3 hI3 => ?_)
        have hK3' : Ks (fun _ => False) H H3 := hK.tr2 hK3 (fun a ha e => by rw [e] at ha; exact ha hI.2)
        have hW3 := hW.k0 hK3'
        show AW mX2_greatestRest G d Qr Qx _ _ H3 25 _ _
        have hx := hW3.2.2.2.2.2 i (by omega)
        have kx := hx.1
        have f30 := hx.2.1
        have f32 := hx.2.2.2
        have hs : (cutN g y need (i + 1)).2 = if g (355 + 3 * i) = y then (if (cutN g y need i).2 < g (356 + 3 * i) then g (356 + 3 * i) else (cutN g y need i).2) else (cutN g y need i).2 := by
          show (cutS g y need i (cutN g y need i)).2 = _
          unfold cutS
          split <;> rfl
        refine r_cast dX2_greatestRest_25 (by first | assumption | (simp only [kd_sI, kd_sR, kd_sA, kd_sQ, kd_sL, kd_sD, ln_sI, ln_sR, ln_sA, ln_sQ, ln_sL, ln_sD, gI_sR, gI_sA, gI_sQ, gI_sL, gI_sD, gR_sI, gR_sA, gR_sQ, gR_sL, gR_sD, gA_sI, gA_sR, gA_sQ, gA_sL, gA_sD, gQ_sI, gQ_sR, gQ_sA, gQ_sL, gQ_sD, gL_sI, gL_sR, gL_sA, gL_sQ, gL_sD]; assumption) | simp [kd_sI, kd_sR, kd_sA, kd_sQ, kd_sL, kd_sD, ln_sI, ln_sR, ln_sA, ln_sQ, ln_sL, ln_sD, gI_sR, gI_sA, gI_sQ, gI_sL, gI_sD, gR_sI, gR_sA, gR_sQ, gR_sL, gR_sD, gA_sI, gA_sR, gA_sQ, gA_sL, gA_sD, gQ_sI, gQ_sR, gQ_sA, gQ_sL, gQ_sD, gL_sI, gL_sR, gL_sA, gL_sQ, gL_sD, kd_nO, kd_nA, *]) (T := TX6) (N := 3) rfl q1217 (Or.inl rfl) ?_
        refine r_astore dX2_greatestRest_28 (Nat.le_of_ble_eq_true rfl) (by simp only [lset]; rfl) ?_
        refine r_aload dX2_greatestRest_30 rfl ?_
        refine r_getI dX2_greatestRest_32 fR_X2_281 (by first | assumption | (simp only [kd_sI, kd_sR, kd_sA, kd_sQ, kd_sL, kd_sD, ln_sI, ln_sR, ln_sA, ln_sQ, ln_sL, ln_sD, gI_sR, gI_sA, gI_sQ, gI_sL, gI_sD, gR_sI, gR_sA, gR_sQ, gR_sL, gR_sD, gA_sI, gA_sR, gA_sQ, gA_sL, gA_sD, gQ_sI, gQ_sR, gQ_sA, gQ_sL, gQ_sD, gL_sI, gL_sR, gL_sA, gL_sQ, gL_sD]; assumption) | simp [kd_sI, kd_sR, kd_sA, kd_sQ, kd_sL, kd_sD, ln_sI, ln_sR, ln_sA, ln_sQ, ln_sL, ln_sD, gI_sR, gI_sA, gI_sQ, gI_sL, gI_sD, gR_sI, gR_sA, gR_sQ, gR_sL, gR_sD, gA_sI, gA_sR, gA_sQ, gA_sL, gA_sD, gQ_sI, gQ_sR, gQ_sA, gQ_sL, gQ_sD, gL_sI, gL_sR, gL_sA, gL_sQ, gL_sD, kd_nO, kd_nA, *]) (by first | assumption | exact gI_sIs | exact gR_sRs | with_reducible rfl | (simp only [kd_sI, kd_sR, kd_sA, kd_sQ, kd_sL, kd_sD, ln_sI, ln_sR, ln_sA, ln_sQ, ln_sL, ln_sD, gI_sR, gI_sA, gI_sQ, gI_sL, gI_sD, gR_sI, gR_sA, gR_sQ, gR_sL, gR_sD, gA_sI, gA_sR, gA_sQ, gA_sL, gA_sD, gQ_sI, gQ_sR, gQ_sA, gQ_sL, gQ_sD, gL_sI, gL_sR, gL_sA, gL_sQ, gL_sD]; first | done | assumption | with_reducible rfl) | rfl) ?_
        refine r_iload_n (i := 1) dX2_greatestRest_35 rfl rfl ?_
        refine r_icmp_ne (tgt := 51) dX2_greatestRest_36 (by decide) (fun h36 => ?_) (fun h36 => ?_)
        · rw [if_neg (by simpa using h36)] at hs
          refine r_iload_n (i := 2) dX2_greatestRest_51 rfl rfl ?_
          refine r_istore_n (i := 2) dX2_greatestRest_52 rfl (Nat.le_of_ble_eq_true rfl) (by simp only [lset]; rfl) ?_
          refine r_goto (tgt := 10) dX2_greatestRest_53 (by decide) ?_
          rw [← hs]
          exact ih (i + 1) _ _ H3 _ (by omega) hK3' ⟨hI3, hI.2⟩
        · rw [if_pos (by simpa using h36)] at hs
          refine r_iload_n (i := 2) dX2_greatestRest_39 rfl rfl ?_
          refine r_aload dX2_greatestRest_40 rfl ?_
          refine r_getI dX2_greatestRest_42 fR_X2_282 (by first | assumption | (simp only [kd_sI, kd_sR, kd_sA, kd_sQ, kd_sL, kd_sD, ln_sI, ln_sR, ln_sA, ln_sQ, ln_sL, ln_sD, gI_sR, gI_sA, gI_sQ, gI_sL, gI_sD, gR_sI, gR_sA, gR_sQ, gR_sL, gR_sD, gA_sI, gA_sR, gA_sQ, gA_sL, gA_sD, gQ_sI, gQ_sR, gQ_sA, gQ_sL, gQ_sD, gL_sI, gL_sR, gL_sA, gL_sQ, gL_sD]; assumption) | simp [kd_sI, kd_sR, kd_sA, kd_sQ, kd_sL, kd_sD, ln_sI, ln_sR, ln_sA, ln_sQ, ln_sL, ln_sD, gI_sR, gI_sA, gI_sQ, gI_sL, gI_sD, gR_sI, gR_sA, gR_sQ, gR_sL, gR_sD, gA_sI, gA_sR, gA_sQ, gA_sL, gA_sD, gQ_sI, gQ_sR, gQ_sA, gQ_sL, gQ_sD, gL_sI, gL_sR, gL_sA, gL_sQ, gL_sD, kd_nO, kd_nA, *]) (by first | assumption | exact gI_sIs | exact gR_sRs | with_reducible rfl | (simp only [kd_sI, kd_sR, kd_sA, kd_sQ, kd_sL, kd_sD, ln_sI, ln_sR, ln_sA, ln_sQ, ln_sL, ln_sD, gI_sR, gI_sA, gI_sQ, gI_sL, gI_sD, gR_sI, gR_sA, gR_sQ, gR_sL, gR_sD, gA_sI, gA_sR, gA_sQ, gA_sL, gA_sD, gQ_sI, gQ_sR, gQ_sA, gQ_sL, gQ_sD, gL_sI, gL_sR, gL_sA, gL_sQ, gL_sD]; first | done | assumption | with_reducible rfl) | rfl) ?_
          refine r_mmax dX2_greatestRest_45 q2103 (by first | assumption | omega) (Nat.le_of_ble_eq_true rfl) ?_
          refine r_goto (tgt := 52) dX2_greatestRest_48 (by decide) ?_
          refine r_istore_n (i := 2) dX2_greatestRest_52 rfl (Nat.le_of_ble_eq_true rfl) (by simp only [lset]; rfl) ?_
          refine r_goto (tgt := 10) dX2_greatestRest_53 (by decide) ?_
          rw [← hs]
          exact ih (i + 1) _ _ H3 _ (by omega) hK3' ⟨hI3, hI.2⟩
  exact loop (nat g 354) 0 _ _ H1 _ (by omega) hK1 ⟨hI1, hit⟩
/-- a refused cut's chain -/
def ctL (g : Nat → Int32) (c : Int32) : Option (List Int32) := if isC g c = false then some [nI 1, c] else if g (105 + 21 * c.toNatClampNeg) = nI 1 then (match cutN g (g (102 + 21 * c.toNatClampNeg)) (q_need g c.toNatClampNeg) (nat g 354) with
    | (none, most) => some [nI 5, q_need g c.toNatClampNeg, most]
    | (some _, _) => none) else some [nI 2, g (105 + 21 * c.toNatClampNeg)]
theorem cutN_s {y need : Int32} {i : Nat} : (cutN g y need (i + 1)).1 = if g (355 + 3 * i) = y ∧ need ≤ g (356 + 3 * i) ∧ (∀ f, (cutN g y need i).1 = some f → g (356 + 3 * i) < g (356 + 3 * f)) then some i else (cutN g y need i).1 := by
  show (cutS g y need i (cutN g y need i)).1 = _
  unfold cutS
  by_cases h1 : g (355 + 3 * i) = y
  · rw [if_pos h1]
    show (if _ then some i else _) = _
    cases hc : (cutN g y need i).1 with
    | none =>
      by_cases h2 : need ≤ g (356 + 3 * i)
      · rw [if_pos ⟨h2, rfl⟩, if_pos ⟨h1, h2, fun f h => by cases h⟩]
      · rw [if_neg (fun q => h2 q.1), if_neg (fun q => h2 q.2.1)]
    | some f =>
      by_cases h2 : need ≤ g (356 + 3 * i)
      · by_cases h3 : g (356 + 3 * i) < g (356 + 3 * f)
        · rw [if_pos ⟨h2, decide_eq_true h3⟩, if_pos ⟨h1, h2, fun f' h => by cases h; exact h3⟩]
        · rw [if_neg (fun q => h3 (of_decide_eq_true q.2)), if_neg (fun q => h3 (q.2.2 f rfl))]
      · rw [if_neg (fun q => h2 q.1), if_neg (fun q => h2 q.2.1)]
  · rw [if_neg h1, if_neg (fun q => h1 q.1)]
theorem oI_lt {f : Nat} (h : f < 1000) : oI (some f) ≠ -1 := by
  show nI f ≠ -1
  intro e
  have h1 := congrArg Int32.toInt e
  have h2 : (nI f).toInt = f := nI_toInt (by omega)
  rw [h2] at h1
  have h3 : (-1 : Int32).toInt = -1 := by decide
  omega
theorem pl_cut {c : Int32} (hd : 8 ≤ d) (hP : IsP G H O t p A g) (hI : IG g) (hQ : ∀ c0 f, c = nI c0 → c0 < nat g 101 → isC g c = true → g (105 + 21 * c0) = nI 1 → (cutN g (g (102 + 21 * c0)) (q_need g c0) (nat g 354)).1 = some f → ∀ H' O', Stq G (fun b => O b / 8 = t) H O H' O' → IsPlan G H' O' t p (cutG g c0 f (q_need g c0)) → Qr (some (vI (nI f))) H') (hX : ∀ H' r l, Ks (fun _ => False) H H' → ChO H' (fun b => kd H b = 0) l (some r) → kd H' r = 9 → ctL g c = some l → Qx "CableTrayPlanner$Refusal" r H') : AMet G d 9 51 yX2_cut wX2_cut H [vR (some p), vI c] Qr Qx := by
  obtain ⟨t0, h1, ⟨eT, ty, nm, nd, h2⟩, ⟨eR, tr, tc, tf, tu, h3⟩, ⟨eC, ca, rl, re, st, h4⟩, ⟨eD, dr, h5⟩⟩ := hP
  have hW := PW.mk h1 h2 h3 h4 h5
  have hB := hI.1
  have hYY := hI.2.2.2.2.2.2.2.1
  have h40 := hB.2.1.2
  have h101 := hB.2.2.1.2
  have h354 := hB.2.2.2.1.2
  have h36 := hB.1.2
  have kp0 := h1.1.1
  refine AMet.of (M := mX2_cut) (maxL := 8) (by first | rfl | decide +kernel) rfl (Nat.le_of_ble_eq_true rfl) ?_
  show AW mX2_cut _ _ _ _ _ _ _ 0 [some (vR (some p)), some (vI c), none, none, none, none, none, none] []
  refine r_aload_n (i := 0) dX2_cut_0 rfl rfl ?_
  refine r_iload_n (i := 1) dX2_cut_1 rfl rfl ?_
  refine r_iconst (v := nI 1) dX2_cut_2 (by decide) ?_
  refine r_callV (As := [_, _]) (mc' := 3) (ms' := 16) dX2_cut_3 k_X2_231 rfl (by first | assumption | (simp only [kd_sI, kd_sR, kd_sA, kd_sQ, kd_sL, kd_sD, ln_sI, ln_sR, ln_sA, ln_sQ, ln_sL, ln_sD, gI_sR, gI_sA, gI_sQ, gI_sL, gI_sD, gR_sI, gR_sA, gR_sQ, gR_sL, gR_sD, gA_sI, gA_sR, gA_sQ, gA_sL, gA_sD, gQ_sI, gQ_sR, gQ_sA, gQ_sL, gQ_sD, gL_sI, gL_sR, gL_sA, gL_sQ, gL_sD]; assumption) | simp [kd_sI, kd_sR, kd_sA, kd_sQ, kd_sL, kd_sD, ln_sI, ln_sR, ln_sA, ln_sQ, ln_sL, ln_sD, gI_sR, gI_sA, gI_sQ, gI_sL, gI_sD, gR_sI, gR_sA, gR_sQ, gR_sL, gR_sD, gA_sI, gA_sR, gA_sQ, gA_sL, gA_sD, gQ_sI, gQ_sR, gQ_sA, gQ_sL, gQ_sD, gL_sI, gL_sR, gL_sA, gL_sQ, gL_sD, kd_nO, kd_nA, *]) (T := TX2) (N := 8) rfl (by first | assumption | omega) (by first | assumption | omega) (by first | assumption | omega) (Nat.le_of_ble_eq_true rfl) ?_
  refine pl_change (by omega) hW hI (fun hc i hi ec es => ?_) (fun H' r l K C k9 hl => x_out (by decide) (hX H' r l K C k9 ?_))
  · subst ec
    have hci : (nI i).toNatClampNeg = i := nI_clamp (by omega)
    show AW mX2_cut G d Qr Qx _ _ H 6 _ _
    refine r_astore_n (i := 2) dX2_cut_6 rfl (Nat.le_of_ble_eq_true rfl) (by simp only [lset]; rfl) ?_
    refine r_aload_n (i := 0) dX2_cut_7 rfl rfl ?_
    refine r_aload_n (i := 2) dX2_cut_8 rfl rfl ?_
    refine r_callV (As := [_]) (mc' := 1) (ms' := 4) dX2_cut_9 k_X2_250 rfl (by first | assumption | (simp only [kd_sI, kd_sR, kd_sA, kd_sQ, kd_sL, kd_sD, ln_sI, ln_sR, ln_sA, ln_sQ, ln_sL, ln_sD, gI_sR, gI_sA, gI_sQ, gI_sL, gI_sD, gR_sI, gR_sA, gR_sQ, gR_sL, gR_sD, gA_sI, gA_sR, gA_sQ, gA_sL, gA_sD, gQ_sI, gQ_sR, gQ_sA, gQ_sL, gQ_sD, gL_sI, gL_sR, gL_sA, gL_sQ, gL_sD]; assumption) | simp [kd_sI, kd_sR, kd_sA, kd_sQ, kd_sL, kd_sD, ln_sI, ln_sR, ln_sA, ln_sQ, ln_sL, ln_sD, gI_sR, gI_sA, gI_sQ, gI_sL, gI_sD, gR_sI, gR_sA, gR_sQ, gR_sL, gR_sD, gA_sI, gA_sR, gA_sQ, gA_sL, gA_sD, gQ_sI, gQ_sR, gQ_sA, gQ_sL, gQ_sD, gL_sI, gL_sR, gL_sA, gL_sQ, gL_sD, kd_nO, kd_nA, *]) (T := TX2) (N := 8) rfl (by first | assumption | omega) (by first | assumption | omega) (by first | assumption | omega) (Nat.le_of_ble_eq_true rfl) ?_
    refine pl_needed (by omega) hW hI hi (fun H1 K1 => ?_)
    refine AW.st0 (fun z1 => ?_)
    obtain ⟨need, hnd⟩ : ∃ x, q_need g i = x := ⟨_, rfl⟩
    have hndF : ndF g i = need := by
      unfold ndF
      rw [es, if_neg (by decide), if_neg (by decide), hnd]
    rw [hndF]
    have s1 : Stq G (fun _ => False) H O H1 O := Stq.of K1 z1
    have y1 := h1.ks s1 (fun _ _ h => h.elim)
    have y2 := h2.ks s1 (fun _ _ h => h.elim)
    have y3 := h3.ks s1 (fun _ _ h => h.elim)
    have y4 := h4.ks s1 (fun _ _ h => h.elim)
    have y5 := h5.ks s1 (fun _ _ h => h.elim)
    have hW1 := PW.mk y1 y2 y3 y4 y5
    obtain ⟨⟨p1, p8, p9, p10, p11, p12, p13, p14, p15⟩, pO⟩ := y1
    have hCo := (y4.2.2.2.1 i hi).1
    have kx := hCo.1
    have kc := kx.1
    obtain ⟨yy, hyy⟩ : ∃ x, g (102 + 21 * i) = x := ⟨_, rfl⟩
    have f23 : gI H1 23 (ca i) = yy := kx.2.1.trans ((cv_at i _ (by omega)).trans hyy)
    have kL := y5.1.1
    have hlt := cutN_lt (g := g) (ty := yy) (need := need)
    obtain ⟨n, hn⟩ : ∃ n, nat g 354 = n := ⟨_, rfl⟩
    rw [hn] at y5 h354
    have hQ1 := fun f => hQ i f rfl hi hc es
    rw [hnd, hyy, hn] at hQ1
    have hct : ctL g (nI i) = match cutN g yy need n with
      | (none, most) => some [nI 5, need, most]
      | (some _, _) => none := by
      unfold ctL
      rw [hc, if_neg (by decide), hci, es, if_pos rfl, hnd, hyy, hn]
    show AW mX2_cut G d Qr Qx _ _ H1 12 _ _
    refine r_istore_n (i := 3) dX2_cut_12 rfl (Nat.le_of_ble_eq_true rfl) (by simp only [lset]; rfl) ?_
    refine r_iconst (v := -1) dX2_cut_13 (by decide) ?_
    refine r_istore dX2_cut_14 (Nat.le_of_ble_eq_true rfl) (by simp only [lset]; rfl) ?_
    refine r_iconst (v := nI 0) dX2_cut_16 (by decide) ?_
    refine r_istore dX2_cut_17 (Nat.le_of_ble_eq_true rfl) (by simp only [lset]; rfl) ?_
    have loop : ∀ (k j : Nat) (l6 l7 : Option AV), j + k = n → AW mX2_cut G d Qr Qx 5 31 H1 19 [some (vR (some p)), some (vI (nI i)), some (vR (some (ca i))), some (vI need), some (vI (oI (cutN g yy need j).1)), some (vI (nI j)), l6, l7] [] := by
      intro k
      induction k with
      | zero =>
        intro j l6 l7 hj
        have hjn : j = n := by omega
        refine r_iload dX2_cut_19 rfl ?_
        refine r_aload_n (i := 0) dX2_cut_21 rfl rfl ?_
        refine r_getR dX2_cut_22 fR_X2_31 (by first | assumption | (simp only [kd_sI, kd_sR, kd_sA, kd_sQ, kd_sL, kd_sD, ln_sI, ln_sR, ln_sA, ln_sQ, ln_sL, ln_sD, gI_sR, gI_sA, gI_sQ, gI_sL, gI_sD, gR_sI, gR_sA, gR_sQ, gR_sL, gR_sD, gA_sI, gA_sR, gA_sQ, gA_sL, gA_sD, gQ_sI, gQ_sR, gQ_sA, gQ_sL, gQ_sD, gL_sI, gL_sR, gL_sA, gL_sQ, gL_sD]; assumption) | simp [kd_sI, kd_sR, kd_sA, kd_sQ, kd_sL, kd_sD, ln_sI, ln_sR, ln_sA, ln_sQ, ln_sL, ln_sD, gI_sR, gI_sA, gI_sQ, gI_sL, gI_sD, gR_sI, gR_sA, gR_sQ, gR_sL, gR_sD, gA_sI, gA_sR, gA_sQ, gA_sL, gA_sD, gQ_sI, gQ_sR, gQ_sA, gQ_sL, gQ_sD, gL_sI, gL_sR, gL_sA, gL_sQ, gL_sD, kd_nO, kd_nA, *]) (by first | assumption | exact gI_sIs | exact gR_sRs | with_reducible rfl | (simp only [kd_sI, kd_sR, kd_sA, kd_sQ, kd_sL, kd_sD, ln_sI, ln_sR, ln_sA, ln_sQ, ln_sL, ln_sD, gI_sR, gI_sA, gI_sQ, gI_sL, gI_sD, gR_sI, gR_sA, gR_sQ, gR_sL, gR_sD, gA_sI, gA_sR, gA_sQ, gA_sL, gA_sD, gQ_sI, gQ_sR, gQ_sA, gQ_sL, gQ_sD, gL_sI, gL_sR, gL_sA, gL_sQ, gL_sD]; first | done | assumption | with_reducible rfl) | rfl) ?_
        refine r_callV (As := []) (mc' := 0) (ms' := 0) dX2_cut_25 k_X2_88 rfl (by first | assumption | (simp only [kd_sI, kd_sR, kd_sA, kd_sQ, kd_sL, kd_sD, ln_sI, ln_sR, ln_sA, ln_sQ, ln_sL, ln_sD, gI_sR, gI_sA, gI_sQ, gI_sL, gI_sD, gR_sI, gR_sA, gR_sQ, gR_sL, gR_sD, gA_sI, gA_sR, gA_sQ, gA_sL, gA_sD, gQ_sI, gQ_sR, gQ_sA, gQ_sL, gQ_sD, gL_sI, gL_sR, gL_sA, gL_sQ, gL_sD]; assumption) | simp [kd_sI, kd_sR, kd_sA, kd_sQ, kd_sL, kd_sD, ln_sI, ln_sR, ln_sA, ln_sQ, ln_sL, ln_sD, gI_sR, gI_sA, gI_sQ, gI_sL, gI_sD, gR_sI, gR_sA, gR_sQ, gR_sL, gR_sD, gA_sI, gA_sR, gA_sQ, gA_sL, gA_sD, gQ_sI, gQ_sR, gQ_sA, gQ_sL, gQ_sD, gL_sI, gL_sR, gL_sA, gL_sQ, gL_sD, kd_nO, kd_nA, *]) (T := TJ2) (N := 3) rfl (by first | assumption | omega) (by first | assumption | omega) (by first | assumption | omega) (Nat.le_of_ble_eq_true rfl) ?_
        refine s_size y5.1.1 y5.1.2.1 ?_
        show AW mX2_cut G d Qr Qx _ _ H1 28 _ _
        refine r_icmp_ge (tgt := 122) dX2_cut_28 (by decide) (fun h28 => ?_) (fun h28 => ?_)
        · rw [hjn]
          cases hcn : (cutN g yy need n).1 with
          | none =>
            refine r_iload dX2_cut_122 rfl ?_
            refine r_iconst (v := -1) dX2_cut_124 (by decide) ?_
            refine r_icmp_ne (tgt := 155) dX2_cut_125 (by decide) (fun h125 => ?_) (fun h125 => ?_)
            · exact absurd (show oI none = -1 from rfl) h125
            · obtain ⟨most, hmost⟩ : ∃ x, (cutN g yy need n).2 = x := ⟨_, rfl⟩
              have hcp : cutN g yy need n = (none, most) := Prod.ext hcn hmost
              rw [hcp] at hct
              refine r_iconst (v := nI 0) dX2_cut_128 (by decide) ?_
              refine r_iconst (v := nI 3) dX2_cut_129 (by decide) ?_
              refine r_new_int 1010 dX2_cut_130 q1480 (by decide) (by first | with_reducible rfl | assumption | (simp only [nI_add, pk_mul, nI_1]; with_reducible rfl)) (by first | assumption | omega) (by first | assumption | omega) (by first | assumption | omega) (fun q130 hq130 => ?_)
              have hqa : kd H1 q130 = 0 := hq130
              refine AW.name (fun H2 hH2 => ?_)
              have K2 : Ks (fun _ => False) H1 H2 := by rw [hH2]; exact Ks.rf.nA hqa
              have kq2 : kd H2 q130 = 1010 := by rw [hH2, kd_nA, if_pos rfl]
              have lq2 : ln H2 q130 = 3 := by rw [hH2, ln_nA, if_pos rfl]
              refine r_dup dX2_cut_132 rfl ?_
              refine r_iconst (v := nI 0) dX2_cut_133 (by decide) ?_
              refine r_iconst (v := nI 5) dX2_cut_134 (by decide) ?_
              refine r_iast dX2_cut_135 (by first | assumption | (simp only [kd_sI, kd_sR, kd_sA, kd_sQ, kd_sL, kd_sD, ln_sI, ln_sR, ln_sA, ln_sQ, ln_sL, ln_sD, gI_sR, gI_sA, gI_sQ, gI_sL, gI_sD, gR_sI, gR_sA, gR_sQ, gR_sL, gR_sD, gA_sI, gA_sR, gA_sQ, gA_sL, gA_sD, gQ_sI, gQ_sR, gQ_sA, gQ_sL, gQ_sD, gL_sI, gL_sR, gL_sA, gL_sQ, gL_sD]; assumption) | simp [kd_sI, kd_sR, kd_sA, kd_sQ, kd_sL, kd_sD, ln_sI, ln_sR, ln_sA, ln_sQ, ln_sL, ln_sD, gI_sR, gI_sA, gI_sQ, gI_sL, gI_sD, gR_sI, gR_sA, gR_sQ, gR_sL, gR_sD, gA_sI, gA_sR, gA_sQ, gA_sL, gA_sD, gQ_sI, gQ_sR, gQ_sA, gQ_sL, gQ_sD, gL_sI, gL_sR, gL_sA, gL_sQ, gL_sD, kd_nO, kd_nA, *]) (by first | decide | assumption) (by first | assumption | exact gI_sIs | exact gR_sRs | with_reducible rfl | (simp only [kd_sI, kd_sR, kd_sA, kd_sQ, kd_sL, kd_sD, ln_sI, ln_sR, ln_sA, ln_sQ, ln_sL, ln_sD, gI_sR, gI_sA, gI_sQ, gI_sL, gI_sD, gR_sI, gR_sA, gR_sQ, gR_sL, gR_sD, gA_sI, gA_sR, gA_sQ, gA_sL, gA_sD, gQ_sI, gQ_sR, gQ_sA, gQ_sL, gQ_sD, gL_sI, gL_sR, gL_sA, gL_sQ, gL_sD]; first | done | assumption | with_reducible rfl) | rfl) (by first | with_reducible rfl | assumption | (simp only [nI_add, pk_mul, nI_1]; with_reducible rfl)) (by first | assumption | omega) (by first | assumption | omega) ?_
              refine r_dup dX2_cut_136 rfl ?_
              refine r_iconst (v := nI 1) dX2_cut_137 (by decide) ?_
              refine r_iload_n (i := 3) dX2_cut_138 rfl rfl ?_
              refine r_iast dX2_cut_139 (by first | assumption | (simp only [kd_sI, kd_sR, kd_sA, kd_sQ, kd_sL, kd_sD, ln_sI, ln_sR, ln_sA, ln_sQ, ln_sL, ln_sD, gI_sR, gI_sA, gI_sQ, gI_sL, gI_sD, gR_sI, gR_sA, gR_sQ, gR_sL, gR_sD, gA_sI, gA_sR, gA_sQ, gA_sL, gA_sD, gQ_sI, gQ_sR, gQ_sA, gQ_sL, gQ_sD, gL_sI, gL_sR, gL_sA, gL_sQ, gL_sD]; assumption) | simp [kd_sI, kd_sR, kd_sA, kd_sQ, kd_sL, kd_sD, ln_sI, ln_sR, ln_sA, ln_sQ, ln_sL, ln_sD, gI_sR, gI_sA, gI_sQ, gI_sL, gI_sD, gR_sI, gR_sA, gR_sQ, gR_sL, gR_sD, gA_sI, gA_sR, gA_sQ, gA_sL, gA_sD, gQ_sI, gQ_sR, gQ_sA, gQ_sL, gQ_sD, gL_sI, gL_sR, gL_sA, gL_sQ, gL_sD, kd_nO, kd_nA, *]) (by first | decide | assumption) (by first | assumption | exact gI_sIs | exact gR_sRs | with_reducible rfl | (simp only [kd_sI, kd_sR, kd_sA, kd_sQ, kd_sL, kd_sD, ln_sI, ln_sR, ln_sA, ln_sQ, ln_sL, ln_sD, gI_sR, gI_sA, gI_sQ, gI_sL, gI_sD, gR_sI, gR_sA, gR_sQ, gR_sL, gR_sD, gA_sI, gA_sR, gA_sQ, gA_sL, gA_sD, gQ_sI, gQ_sR, gQ_sA, gQ_sL, gQ_sD, gL_sI, gL_sR, gL_sA, gL_sQ, gL_sD]; first | done | assumption | with_reducible rfl) | rfl) (by first | with_reducible rfl | assumption | (simp only [nI_add, pk_mul, nI_1]; with_reducible rfl)) (by first | assumption | omega) (by first | assumption | omega) ?_
              refine AW.name (fun H3 hH3 => ?_)
              have K3 : Ks (fun _ => False) H1 H3 := by rw [hH3]; exact (K2.sA (fun h => h hqa)).sA (fun h => h hqa)
              have kq3 : kd H3 q130 = 1010 := by rw [hH3]; exact kq2
              have lq3 : ln H3 q130 = 3 := by rw [hH3]; exact lq2
              have gq30 : gA H3 1010 q130 0 = nI 5 := by rw [hH3, gA_sAs, upd_n (by decide), gA_sAs]; exact upd_s
              have gq31 : gA H3 1010 q130 1 = need := by rw [hH3, gA_sAs]; exact upd_s
              have hW3 := hW1.k0 K3
              have kp3 := hW3.1.1
              have x3 := K3.at (a := ca i) (by rw [kc]; decide) (fun h => h)
              have kc3 : kd H3 (ca i) = 4 := by rw [at_kd x3]; exact kc
              have f233 : gI H3 23 (ca i) = yy := by rw [at_gI x3]; exact f23
              refine r_dup dX2_cut_140 rfl ?_
              refine r_iconst (v := nI 2) dX2_cut_141 (by decide) ?_
              refine r_aload_n (i := 0) dX2_cut_142 rfl rfl ?_
              refine r_aload_n (i := 2) dX2_cut_143 rfl rfl ?_
              refine r_getI dX2_cut_144 fR_X2_235 (by first | assumption | (simp only [kd_sI, kd_sR, kd_sA, kd_sQ, kd_sL, kd_sD, ln_sI, ln_sR, ln_sA, ln_sQ, ln_sL, ln_sD, gI_sR, gI_sA, gI_sQ, gI_sL, gI_sD, gR_sI, gR_sA, gR_sQ, gR_sL, gR_sD, gA_sI, gA_sR, gA_sQ, gA_sL, gA_sD, gQ_sI, gQ_sR, gQ_sA, gQ_sL, gQ_sD, gL_sI, gL_sR, gL_sA, gL_sQ, gL_sD]; assumption) | simp [kd_sI, kd_sR, kd_sA, kd_sQ, kd_sL, kd_sD, ln_sI, ln_sR, ln_sA, ln_sQ, ln_sL, ln_sD, gI_sR, gI_sA, gI_sQ, gI_sL, gI_sD, gR_sI, gR_sA, gR_sQ, gR_sL, gR_sD, gA_sI, gA_sR, gA_sQ, gA_sL, gA_sD, gQ_sI, gQ_sR, gQ_sA, gQ_sL, gQ_sD, gL_sI, gL_sR, gL_sA, gL_sQ, gL_sD, kd_nO, kd_nA, *]) (by first | assumption | exact gI_sIs | exact gR_sRs | with_reducible rfl | (simp only [kd_sI, kd_sR, kd_sA, kd_sQ, kd_sL, kd_sD, ln_sI, ln_sR, ln_sA, ln_sQ, ln_sL, ln_sD, gI_sR, gI_sA, gI_sQ, gI_sL, gI_sD, gR_sI, gR_sA, gR_sQ, gR_sL, gR_sD, gA_sI, gA_sR, gA_sQ, gA_sL, gA_sD, gQ_sI, gQ_sR, gQ_sA, gQ_sL, gQ_sD, gL_sI, gL_sR, gL_sA, gL_sQ, gL_sD]; first | done | assumption | with_reducible rfl) | rfl) ?_
              refine r_callV (As := [_]) (mc' := 1) (ms' := 4) dX2_cut_147 k_X2_291 rfl (by first | assumption | (simp only [kd_sI, kd_sR, kd_sA, kd_sQ, kd_sL, kd_sD, ln_sI, ln_sR, ln_sA, ln_sQ, ln_sL, ln_sD, gI_sR, gI_sA, gI_sQ, gI_sL, gI_sD, gR_sI, gR_sA, gR_sQ, gR_sL, gR_sD, gA_sI, gA_sR, gA_sQ, gA_sL, gA_sD, gQ_sI, gQ_sR, gQ_sA, gQ_sL, gQ_sD, gL_sI, gL_sR, gL_sA, gL_sQ, gL_sD]; assumption) | simp [kd_sI, kd_sR, kd_sA, kd_sQ, kd_sL, kd_sD, ln_sI, ln_sR, ln_sA, ln_sQ, ln_sL, ln_sD, gI_sR, gI_sA, gI_sQ, gI_sL, gI_sD, gR_sI, gR_sA, gR_sQ, gR_sL, gR_sD, gA_sI, gA_sR, gA_sQ, gA_sL, gA_sD, gQ_sI, gQ_sR, gQ_sA, gQ_sL, gQ_sD, gL_sI, gL_sR, gL_sA, gL_sQ, gL_sD, kd_nO, kd_nA, *]) (T := TX2) (N := 8) rfl (by first | assumption | omega) (by first | assumption | omega) (by first | assumption | omega) (Nat.le_of_ble_eq_true rfl) ?_
              refine pl_greatest (need := need) (by omega) hW3 hI (fun H4 K4 => ?_)
              rw [hn, hmost]
              have e4 := K4.at (a := q130) (by rw [kq3]; decide) (fun h => h)
              have kq4 : kd H4 q130 = 1010 := by rw [at_kd e4]; exact kq3
              have lq4 : ln H4 q130 = 3 := by rw [at_ln e4]; exact lq3
              have K14 : Ks (fun _ => False) H1 H4 := K3.tr K4
              show AW mX2_cut G d Qr Qx _ _ H4 150 _ _
              refine r_iast dX2_cut_150 (by first | assumption | (simp only [kd_sI, kd_sR, kd_sA, kd_sQ, kd_sL, kd_sD, ln_sI, ln_sR, ln_sA, ln_sQ, ln_sL, ln_sD, gI_sR, gI_sA, gI_sQ, gI_sL, gI_sD, gR_sI, gR_sA, gR_sQ, gR_sL, gR_sD, gA_sI, gA_sR, gA_sQ, gA_sL, gA_sD, gQ_sI, gQ_sR, gQ_sA, gQ_sL, gQ_sD, gL_sI, gL_sR, gL_sA, gL_sQ, gL_sD]; assumption) | simp [kd_sI, kd_sR, kd_sA, kd_sQ, kd_sL, kd_sD, ln_sI, ln_sR, ln_sA, ln_sQ, ln_sL, ln_sD, gI_sR, gI_sA, gI_sQ, gI_sL, gI_sD, gR_sI, gR_sA, gR_sQ, gR_sL, gR_sD, gA_sI, gA_sR, gA_sQ, gA_sL, gA_sD, gQ_sI, gQ_sR, gQ_sA, gQ_sL, gQ_sD, gL_sI, gL_sR, gL_sA, gL_sQ, gL_sD, kd_nO, kd_nA, *]) (by first | decide | assumption) (by first | assumption | exact gI_sIs | exact gR_sRs | with_reducible rfl | (simp only [kd_sI, kd_sR, kd_sA, kd_sQ, kd_sL, kd_sD, ln_sI, ln_sR, ln_sA, ln_sQ, ln_sL, ln_sD, gI_sR, gI_sA, gI_sQ, gI_sL, gI_sD, gR_sI, gR_sA, gR_sQ, gR_sL, gR_sD, gA_sI, gA_sR, gA_sQ, gA_sL, gA_sD, gQ_sI, gQ_sR, gQ_sA, gQ_sL, gQ_sD, gL_sI, gL_sR, gL_sA, gL_sQ, gL_sD]; first | done | assumption | with_reducible rfl) | rfl) (by first | with_reducible rfl | assumption | (simp only [nI_add, pk_mul, nI_1]; with_reducible rfl)) (by first | assumption | omega) (by first | assumption | omega) ?_
              refine AW.name (fun H5 hH5 => ?_)
              have K5 : Ks (fun _ => False) H1 H5 := by rw [hH5]; exact K14.sA (fun h => h hqa)
              refine r_callS (As := [_, _]) (mc' := 3) (ms' := 21) dX2_cut_151 k_X2_207 rfl (by first | assumption | omega) (by first | assumption | omega) (by first | assumption | omega) (Nat.le_of_ble_eq_true rfl) ?_
              refine of_call (n := 3) (fun z => if z = 0 then nI 5 else if z = 1 then need else most) (by decide) (by decide) (by omega) hqa K5 (by rw [hH5]; exact kq4) (by rw [hH5]; exact lq4) (fun z hz => ?_) (fun H6 r K6 C6 h9 => ?_)
              · rw [hH5, gA_sAs]
                rcases (show z = 0 ∨ z = 1 ∨ z = 2 by omega) with rfl | rfl | rfl
                · rw [upd_n (by decide), at_gA e4]
                  exact gq30
                · rw [upd_n (by decide), at_gA e4]
                  exact gq31
                · exact upd_s
              · show AW mX2_cut G d Qr Qx _ _ H6 154 _ _
                refine r_athrow dX2_cut_154 (by first | assumption | (simp only [kd_sI, kd_sR, kd_sA, kd_sQ, kd_sL, kd_sD, ln_sI, ln_sR, ln_sA, ln_sQ, ln_sL, ln_sD, gI_sR, gI_sA, gI_sQ, gI_sL, gI_sD, gR_sI, gR_sA, gR_sQ, gR_sL, gR_sD, gA_sI, gA_sR, gA_sQ, gA_sL, gA_sD, gQ_sI, gQ_sR, gQ_sA, gQ_sL, gQ_sD, gL_sI, gL_sR, gL_sA, gL_sQ, gL_sD]; assumption) | simp [kd_sI, kd_sR, kd_sA, kd_sQ, kd_sL, kd_sD, ln_sI, ln_sR, ln_sA, ln_sQ, ln_sL, ln_sD, gI_sR, gI_sA, gI_sQ, gI_sL, gI_sD, gR_sI, gR_sA, gR_sQ, gR_sL, gR_sD, gA_sI, gA_sR, gA_sQ, gA_sL, gA_sD, gQ_sI, gQ_sR, gQ_sA, gQ_sL, gQ_sD, gL_sI, gL_sR, gL_sA, gL_sQ, gL_sD, kd_nO, kd_nA, *]) rfl ?_
                exact x_out (by decide) (hX H6 r _ (K1.tr K6) (C6.mono (fun b hb => K1.fr hb)) h9 (by rw [hct]; rfl))
          | some f =>
            have hf := hlt n f hcn
            have hdf := y5.2.2.2.1 f hf
            have kdf := hdf.1.1
            have f32 : gI H1 32 (dr f) = g (356 + 3 * f) := hdf.1.2.2.2.trans (by unfold dvOf; rw [show 355 + 3 * f + 1 = 356 + 3 * f by omega])
            refine r_iload dX2_cut_122 rfl ?_
            refine r_iconst (v := -1) dX2_cut_124 (by decide) ?_
            refine r_icmp_ne (tgt := 155) dX2_cut_125 (by decide) (fun h125 => ?_) (fun h125 => ?_)
            · show AW mX2_cut G d Qr Qx _ _ H1 155 [some (vR (some p)), some (vI (nI i)), some (vR (some (ca i))), some (vI need), some (vI (nI f)), some (vI (nI n)), l6, l7] _
              refine r_aload_n (i := 0) dX2_cut_155 rfl rfl ?_
              refine r_getR dX2_cut_156 fR_X2_31 (by first | assumption | (simp only [kd_sI, kd_sR, kd_sA, kd_sQ, kd_sL, kd_sD, ln_sI, ln_sR, ln_sA, ln_sQ, ln_sL, ln_sD, gI_sR, gI_sA, gI_sQ, gI_sL, gI_sD, gR_sI, gR_sA, gR_sQ, gR_sL, gR_sD, gA_sI, gA_sR, gA_sQ, gA_sL, gA_sD, gQ_sI, gQ_sR, gQ_sA, gQ_sL, gQ_sD, gL_sI, gL_sR, gL_sA, gL_sQ, gL_sD]; assumption) | simp [kd_sI, kd_sR, kd_sA, kd_sQ, kd_sL, kd_sD, ln_sI, ln_sR, ln_sA, ln_sQ, ln_sL, ln_sD, gI_sR, gI_sA, gI_sQ, gI_sL, gI_sD, gR_sI, gR_sA, gR_sQ, gR_sL, gR_sD, gA_sI, gA_sR, gA_sQ, gA_sL, gA_sD, gQ_sI, gQ_sR, gQ_sA, gQ_sL, gQ_sD, gL_sI, gL_sR, gL_sA, gL_sQ, gL_sD, kd_nO, kd_nA, *]) (by first | assumption | exact gI_sIs | exact gR_sRs | with_reducible rfl | (simp only [kd_sI, kd_sR, kd_sA, kd_sQ, kd_sL, kd_sD, ln_sI, ln_sR, ln_sA, ln_sQ, ln_sL, ln_sD, gI_sR, gI_sA, gI_sQ, gI_sL, gI_sD, gR_sI, gR_sA, gR_sQ, gR_sL, gR_sD, gA_sI, gA_sR, gA_sQ, gA_sL, gA_sD, gQ_sI, gQ_sR, gQ_sA, gQ_sL, gQ_sD, gL_sI, gL_sR, gL_sA, gL_sQ, gL_sD]; first | done | assumption | with_reducible rfl) | rfl) ?_
              refine r_iload dX2_cut_159 rfl ?_
              refine r_callV (As := [_]) (mc' := 0) (ms' := 0) dX2_cut_161 k_X2_110 rfl (by first | assumption | (simp only [kd_sI, kd_sR, kd_sA, kd_sQ, kd_sL, kd_sD, ln_sI, ln_sR, ln_sA, ln_sQ, ln_sL, ln_sD, gI_sR, gI_sA, gI_sQ, gI_sL, gI_sD, gR_sI, gR_sA, gR_sQ, gR_sL, gR_sD, gA_sI, gA_sR, gA_sQ, gA_sL, gA_sD, gQ_sI, gQ_sR, gQ_sA, gQ_sL, gQ_sD, gL_sI, gL_sR, gL_sA, gL_sQ, gL_sD]; assumption) | simp [kd_sI, kd_sR, kd_sA, kd_sQ, kd_sL, kd_sD, ln_sI, ln_sR, ln_sA, ln_sQ, ln_sL, ln_sD, gI_sR, gI_sA, gI_sQ, gI_sL, gI_sD, gR_sI, gR_sA, gR_sQ, gR_sL, gR_sD, gA_sI, gA_sR, gA_sQ, gA_sL, gA_sD, gQ_sI, gQ_sR, gQ_sA, gQ_sL, gQ_sD, gL_sI, gL_sR, gL_sA, gL_sQ, gL_sD, kd_nO, kd_nA, *]) (T := TJ2) (N := 3) rfl (by first | assumption | omega) (by first | assumption | omega) (by first | assumption | omega) (Nat.le_of_ble_eq_true rfl) ?_
              refine s_get (by omega) y5.1 hf (by omega) ?_
              show AW mX2_cut G d Qr Qx _ _ H1 164 _ _
              refine r_cast dX2_cut_164 (by first | assumption | (simp only [kd_sI, kd_sR, kd_sA, kd_sQ, kd_sL, kd_sD, ln_sI, ln_sR, ln_sA, ln_sQ, ln_sL, ln_sD, gI_sR, gI_sA, gI_sQ, gI_sL, gI_sD, gR_sI, gR_sA, gR_sQ, gR_sL, gR_sD, gA_sI, gA_sR, gA_sQ, gA_sL, gA_sD, gQ_sI, gQ_sR, gQ_sA, gQ_sL, gQ_sD, gL_sI, gL_sR, gL_sA, gL_sQ, gL_sD]; assumption) | simp [kd_sI, kd_sR, kd_sA, kd_sQ, kd_sL, kd_sD, ln_sI, ln_sR, ln_sA, ln_sQ, ln_sL, ln_sD, gI_sR, gI_sA, gI_sQ, gI_sL, gI_sD, gR_sI, gR_sA, gR_sQ, gR_sL, gR_sD, gA_sI, gA_sR, gA_sQ, gA_sL, gA_sD, gQ_sI, gQ_sR, gQ_sA, gQ_sL, gQ_sD, gL_sI, gL_sR, gL_sA, gL_sQ, gL_sD, kd_nO, kd_nA, *]) (T := TX6) (N := 3) rfl q1217 (Or.inl rfl) ?_
              refine r_dup dX2_cut_167 rfl ?_
              refine r_getI dX2_cut_168 fR_X2_282 (by first | assumption | (simp only [kd_sI, kd_sR, kd_sA, kd_sQ, kd_sL, kd_sD, ln_sI, ln_sR, ln_sA, ln_sQ, ln_sL, ln_sD, gI_sR, gI_sA, gI_sQ, gI_sL, gI_sD, gR_sI, gR_sA, gR_sQ, gR_sL, gR_sD, gA_sI, gA_sR, gA_sQ, gA_sL, gA_sD, gQ_sI, gQ_sR, gQ_sA, gQ_sL, gQ_sD, gL_sI, gL_sR, gL_sA, gL_sQ, gL_sD]; assumption) | simp [kd_sI, kd_sR, kd_sA, kd_sQ, kd_sL, kd_sD, ln_sI, ln_sR, ln_sA, ln_sQ, ln_sL, ln_sD, gI_sR, gI_sA, gI_sQ, gI_sL, gI_sD, gR_sI, gR_sA, gR_sQ, gR_sL, gR_sD, gA_sI, gA_sR, gA_sQ, gA_sL, gA_sD, gQ_sI, gQ_sR, gQ_sA, gQ_sL, gQ_sD, gL_sI, gL_sR, gL_sA, gL_sQ, gL_sD, kd_nO, kd_nA, *]) (by first | assumption | exact gI_sIs | exact gR_sRs | with_reducible rfl | (simp only [kd_sI, kd_sR, kd_sA, kd_sQ, kd_sL, kd_sD, ln_sI, ln_sR, ln_sA, ln_sQ, ln_sL, ln_sD, gI_sR, gI_sA, gI_sQ, gI_sL, gI_sD, gR_sI, gR_sA, gR_sQ, gR_sL, gR_sD, gA_sI, gA_sR, gA_sQ, gA_sL, gA_sD, gQ_sI, gQ_sR, gQ_sA, gQ_sL, gQ_sD, gL_sI, gL_sR, gL_sA, gL_sQ, gL_sD]; first | done | assumption | with_reducible rfl) | rfl) ?_
              refine r_iload_n (i := 3) dX2_cut_171 rfl rfl ?_
              refine r_isub dX2_cut_172 ?_
              refine r_putI dX2_cut_173 fG_X2_282 (fun _ => by first | rfl | contradiction) (by first | assumption | (simp only [kd_sI, kd_sR, kd_sA, kd_sQ, kd_sL, kd_sD, ln_sI, ln_sR, ln_sA, ln_sQ, ln_sL, ln_sD, gI_sR, gI_sA, gI_sQ, gI_sL, gI_sD, gR_sI, gR_sA, gR_sQ, gR_sL, gR_sD, gA_sI, gA_sR, gA_sQ, gA_sL, gA_sD, gQ_sI, gQ_sR, gQ_sA, gQ_sL, gQ_sD, gL_sI, gL_sR, gL_sA, gL_sQ, gL_sD]; assumption) | simp [kd_sI, kd_sR, kd_sA, kd_sQ, kd_sL, kd_sD, ln_sI, ln_sR, ln_sA, ln_sQ, ln_sL, ln_sD, gI_sR, gI_sA, gI_sQ, gI_sL, gI_sD, gR_sI, gR_sA, gR_sQ, gR_sL, gR_sD, gA_sI, gA_sR, gA_sQ, gA_sL, gA_sD, gQ_sI, gQ_sR, gQ_sA, gQ_sL, gQ_sD, gL_sI, gL_sR, gL_sA, gL_sQ, gL_sD, kd_nO, kd_nA, *]) (by first | rfl | assumption) (by first | rfl | assumption) ?_
              refine AW.name (fun H2 hH2 => ?_)
              refine AW.st0 (fun z2 => ?_)
              have K2 : Ks (fun a => a = dr f) H1 H2 := by rw [hH2]; exact (Ks.rf (S := fun a => a = dr f)).sI (fun _ => rfl)
              have hT2 : DrO H2 (dr f) ((fun k => dvOf (cutG g i f need) f k) 0) ((fun k => dvOf (cutG g i f need) f k) 2) ((fun k => dvOf (cutG g i f need) f k) 1) := by
                obtain ⟨b1, b2, b3, b4⟩ := hdf.1
                refine ⟨K2.kk b1 (by decide), ?_, ?_, ?_⟩
                · rw [hH2, gI_sIn (by decide), b2]
                  show dvOf g f 0 = dvOf (cutG g i f need) f 0
                  unfold dvOf
                  exact (cut_out _ (by omega) (by omega) (by omega) (by omega)).symm
                · rw [hH2, gI_sIn (by decide), b3]
                  show dvOf g f 2 = dvOf (cutG g i f need) f 2
                  unfold dvOf
                  exact (cut_out _ (by omega) (by omega) (by omega) (by omega)).symm
                · rw [hH2, gI_sIs]
                  show _ = dvOf (cutG g i f need) f 1
                  unfold dvOf cutG
                  rw [upd_n (by omega), upd_n (by omega), upd_n (by omega), upd_s, show 355 + 3 * f + 1 = 356 + 3 * f by omega]
              obtain ⟨s2, w5⟩ := y5.set (v := fun k => dvOf (cutG g i f need) f k) hf K2 z2 hT2
              have w5' := w5.to (dv' := dvOf (cutG g i f need)) (fun x k hx hk => by
                by_cases e : x = f
                · rw [e, upA_n]
                · rw [upA_i e]
                  unfold dvOf
                  exact cut_out _ (by omega) (by omega) (by omega) (by omega))
              have w4 := y4.ks s2 (fun b _ e => ⟨by omega, by omega⟩)
              have hCo2 := (w4.2.2.2.1 i hi).1
              have kc2 : kd H2 (ca i) = 4 := hCo2.1.1
              refine r_aload_n (i := 2) dX2_cut_176 rfl rfl ?_
              refine r_iload_n (i := 3) dX2_cut_177 rfl rfl ?_
              refine r_putI dX2_cut_178 fG_X2_268 (fun _ => by first | rfl | contradiction) (by first | assumption | (simp only [kd_sI, kd_sR, kd_sA, kd_sQ, kd_sL, kd_sD, ln_sI, ln_sR, ln_sA, ln_sQ, ln_sL, ln_sD, gI_sR, gI_sA, gI_sQ, gI_sL, gI_sD, gR_sI, gR_sA, gR_sQ, gR_sL, gR_sD, gA_sI, gA_sR, gA_sQ, gA_sL, gA_sD, gQ_sI, gQ_sR, gQ_sA, gQ_sL, gQ_sD, gL_sI, gL_sR, gL_sA, gL_sQ, gL_sD]; assumption) | simp [kd_sI, kd_sR, kd_sA, kd_sQ, kd_sL, kd_sD, ln_sI, ln_sR, ln_sA, ln_sQ, ln_sL, ln_sD, gI_sR, gI_sA, gI_sQ, gI_sL, gI_sD, gR_sI, gR_sA, gR_sQ, gR_sL, gR_sD, gA_sI, gA_sR, gA_sQ, gA_sL, gA_sD, gQ_sI, gQ_sR, gQ_sA, gQ_sL, gQ_sD, gL_sI, gL_sR, gL_sA, gL_sQ, gL_sD, kd_nO, kd_nA, *]) (by first | rfl | assumption) (by first | rfl | assumption) ?_
              refine r_aload_n (i := 2) dX2_cut_181 rfl rfl ?_
              refine r_iload dX2_cut_182 rfl ?_
              refine r_putI dX2_cut_184 fG_X2_265 (fun _ => by first | rfl | contradiction) (by first | assumption | (simp only [kd_sI, kd_sR, kd_sA, kd_sQ, kd_sL, kd_sD, ln_sI, ln_sR, ln_sA, ln_sQ, ln_sL, ln_sD, gI_sR, gI_sA, gI_sQ, gI_sL, gI_sD, gR_sI, gR_sA, gR_sQ, gR_sL, gR_sD, gA_sI, gA_sR, gA_sQ, gA_sL, gA_sD, gQ_sI, gQ_sR, gQ_sA, gQ_sL, gQ_sD, gL_sI, gL_sR, gL_sA, gL_sQ, gL_sD]; assumption) | simp [kd_sI, kd_sR, kd_sA, kd_sQ, kd_sL, kd_sD, ln_sI, ln_sR, ln_sA, ln_sQ, ln_sL, ln_sD, gI_sR, gI_sA, gI_sQ, gI_sL, gI_sD, gR_sI, gR_sA, gR_sQ, gR_sL, gR_sD, gA_sI, gA_sR, gA_sQ, gA_sL, gA_sD, gQ_sI, gQ_sR, gQ_sA, gQ_sL, gQ_sD, gL_sI, gL_sR, gL_sA, gL_sQ, gL_sD, kd_nO, kd_nA, *]) (by first | rfl | assumption) (by first | rfl | assumption) ?_
              refine r_aload_n (i := 2) dX2_cut_187 rfl rfl ?_
              refine r_iconst (v := nI 2) dX2_cut_188 (by decide) ?_
              refine r_putI dX2_cut_189 fG_X2_211 (fun _ => by first | rfl | contradiction) (by first | assumption | (simp only [kd_sI, kd_sR, kd_sA, kd_sQ, kd_sL, kd_sD, ln_sI, ln_sR, ln_sA, ln_sQ, ln_sL, ln_sD, gI_sR, gI_sA, gI_sQ, gI_sL, gI_sD, gR_sI, gR_sA, gR_sQ, gR_sL, gR_sD, gA_sI, gA_sR, gA_sQ, gA_sL, gA_sD, gQ_sI, gQ_sR, gQ_sA, gQ_sL, gQ_sD, gL_sI, gL_sR, gL_sA, gL_sQ, gL_sD]; assumption) | simp [kd_sI, kd_sR, kd_sA, kd_sQ, kd_sL, kd_sD, ln_sI, ln_sR, ln_sA, ln_sQ, ln_sL, ln_sD, gI_sR, gI_sA, gI_sQ, gI_sL, gI_sD, gR_sI, gR_sA, gR_sQ, gR_sL, gR_sD, gA_sI, gA_sR, gA_sQ, gA_sL, gA_sD, gQ_sI, gQ_sR, gQ_sA, gQ_sL, gQ_sD, gL_sI, gL_sR, gL_sA, gL_sQ, gL_sD, kd_nO, kd_nA, *]) (by first | rfl | assumption) (by first | rfl | assumption) ?_
              refine AW.name (fun H3 hH3 => ?_)
              refine AW.st0 (fun z3 => ?_)
              have K3 : Ks (fun b => b = ca i) H2 H3 := by rw [hH3]; exact (((Ks.rf (S := fun b => b = ca i)).sI (fun _ => rfl)).sI (fun _ => rfl)).sI (fun _ => rfl)
              have nrl : ¬ rl i = ca i := fun e => by have := hCo2.2.2.2.1.1; rw [e, kc2] at this; omega
              have nre : kd H2 (re i) = 4096 → ¬ re i = ca i := fun k e => by rw [e, kc2] at k; omega
              have vE : ∀ k, k < 21 → k ≠ 3 → k ≠ 5 → k ≠ 6 → cvOf (cutG g i f need) i k = cvOf g i k := fun k hk h1 h2 h3 => by unfold cvOf; exact cut_out _ (by omega) (by omega) (by omega) (by omega)
              have v3 : cvOf (cutG g i f need) i 3 = nI 2 := by
                unfold cvOf cutG
                rw [upd_n (by omega), upd_n (by omega), upd_s]
              have v5 : cvOf (cutG g i f need) i 5 = need := by
                unfold cvOf cutG
                rw [upd_n (by omega), upd_s]
              have v6 : cvOf (cutG g i f need) i 6 = nI f := by
                unfold cvOf cutG
                rw [upd_s]
              have hT3 : CaO G H3 (ca i) (rl i) (re i) (st i) (cvOf g i 4).toNatClampNeg (cvOf (cutG g i f need) i) := by
                obtain ⟨⟨a1, a2, a3, a4, a5, a6, a7, a8⟩, a9, a10, a11, a12⟩ := hCo2
                refine ⟨⟨K3.kk a1 (by decide), ?_, ?_, ?_, ?_, ?_, ?_, ?_⟩, ?_, a10, a11.ks K3 nrl nre, fun j hj => ?_⟩
                · rw [hH3, gI_sIn (by decide), gI_sIn (by decide), gI_sIn (by decide), vE 0 (by decide) (by decide) (by decide) (by decide)]; exact a2
                · rw [hH3, gI_sIn (by decide), gI_sIn (by decide), gI_sIn (by decide), vE 1 (by decide) (by decide) (by decide) (by decide)]; exact a3
                · rw [hH3, gI_sIn (by decide), gI_sIn (by decide), gI_sIn (by decide), vE 2 (by decide) (by decide) (by decide) (by decide)]; exact a4
                · rw [hH3, gI_sIs, v3]
                · rw [hH3, gI_sIn (by decide), gI_sIn (by decide), gI_sIs, v5]
                · rw [hH3, gI_sIn (by decide), gI_sIs, v6]
                · rw [hH3, gR_sI, gR_sI, gR_sI]; exact a8
                · rw [vE 4 (by decide) (by decide) (by decide) (by decide)]; exact a9
                · obtain ⟨b1, b2, b3⟩ := a12 j hj
                  have e := K3.at (a := st i j) (by rw [b1]; decide) (fun e => by rw [e, kc2] at b1; omega)
                  rw [at_kd e, at_gI e, at_gI e, vE (7 + j) (by omega) (by omega) (by omega) (by omega), vE (14 + j) (by omega) (by omega) (by omega) (by omega)]
                  exact ⟨b1, b2, b3⟩
              obtain ⟨s3, w6⟩ := w4.set (v := cvOf (cutG g i f need) i) (k := (cvOf g i 4).toNatClampNeg) z2 hi (by omega) (K3.mono (fun b _ e => Or.inl e)) z3 (by rw [vE 4 (by decide) (by decide) (by decide) (by decide)]) hT3 (Or.inl rfl) (fun j hj => ⟨by rw [(hCo2.2.2.2.2 j hj).1]; decide, (w4.2.2.2.1 i hi).2.2.2 j hj⟩)
              have w6' := w6.to (cv' := cvOf (cutG g i f need)) (fun c' k hc' hk => by
                by_cases e : c' = i
                · rw [e, upA_n]
                · rw [upA_i e]
                  unfold cvOf
                  exact cut_out _ (by omega) (by omega) (by omega) (by omega))
              have w1 := (PlF.ks ⟨⟨p1, p8, p9, p10, p11, p12, p13, p14, p15⟩, pO⟩ s2 (fun b _ e => by omega)).ks s3 (fun b _ e => by omega)
              have w2 := (y2.ks s2 (fun b _ e => ⟨by omega, by omega, fun h => by omega⟩)).ks s3 (fun b _ e => ⟨by omega, by omega, fun h => by omega⟩)
              have w3 := (y3.ks s2 (fun b _ e => by omega)).ks s3 (fun b _ e => by omega)
              have w7 := w5'.ks s3 (fun b _ e => by omega)
              have oo := cut_out (g := g) (c := i) (f := f) (need := need)
              rw [← oo 0 (by omega) (by omega) (by omega) (by omega), ← oo 1 (by omega) (by omega) (by omega) (by omega), ← oo 2 (by omega) (by omega) (by omega) (by omega)] at w1
              have w2' := w2.to (g' := cutG g i f need) (fun y hy => by have := (hYY.1 y hy).1.2; show nat g (7 + 6 * y) ≤ 3; omega) (fun y k hy hk => oo _ (by omega) (by omega) (by omega) (by omega))
              have w3' := w3.to (tv' := tvOf (cutG g i f need)) (fun x hx => tv_cut hB hi hx)
              rw [← nat_eq (oo 3 (by omega) (by omega) (by omega) (by omega))] at w2'
              rw [← nat_eq (oo 40 (by omega) (by omega) (by omega) (by omega))] at w3'
              rw [← nat_eq (oo 101 (by omega) (by omega) (by omega) (by omega))] at w6'
              rw [← hn, ← nat_eq (oo 354 (by omega) (by omega) (by omega) (by omega))] at w7
              refine r_iload dX2_cut_192 rfl ?_
              refine r_ireturn dX2_cut_194 rfl (by first | rfl | assumption | exact vp_nar_int _ | exact pk_nc _) ?_
              have s13 : Stq G (fun b => O b / 8 = t) H O H3 _ := ((s1.mono (fun _ _ h => h.elim)).tr2 s2 (fun b _ e => by omega)).tr2 s3 (fun b _ e => by omega)
              exact hQ1 f hcn H3 _ s13 ⟨A, t0, w1, ⟨_, _, _, _, w2'⟩, ⟨_, _, _, _, _, w3'⟩, ⟨_, _, _, _, _, w6'⟩, ⟨_, _, w7⟩⟩
            · exact absurd h125 (oI_lt (by omega))
        · exact absurd (show nI n ≤ nI j by rw [hjn]; exact Int32.le_refl _) h28
      | succ k ih =>
        intro j l6 l7 hj
        have hjn : j < n := by omega
        have hdj := y5.2.2.2.1 j hjn
        have kdj := hdj.1.1
        have f30 : gI H1 30 (dr j) = g (355 + 3 * j) := hdj.1.2.1
        have f32 : gI H1 32 (dr j) = g (356 + 3 * j) := hdj.1.2.2.2.trans (by unfold dvOf; rw [show 355 + 3 * j + 1 = 356 + 3 * j by omega])
        have hst := cutN_s (g := g) (y := yy) (need := need) (i := j)
        have ihn := fun l6 l7 => ih (j + 1) l6 l7 (by omega)
        refine r_iload dX2_cut_19 rfl ?_
        refine r_aload_n (i := 0) dX2_cut_21 rfl rfl ?_
        refine r_getR dX2_cut_22 fR_X2_31 (by first | assumption | (simp only [kd_sI, kd_sR, kd_sA, kd_sQ, kd_sL, kd_sD, ln_sI, ln_sR, ln_sA, ln_sQ, ln_sL, ln_sD, gI_sR, gI_sA, gI_sQ, gI_sL, gI_sD, gR_sI, gR_sA, gR_sQ, gR_sL, gR_sD, gA_sI, gA_sR, gA_sQ, gA_sL, gA_sD, gQ_sI, gQ_sR, gQ_sA, gQ_sL, gQ_sD, gL_sI, gL_sR, gL_sA, gL_sQ, gL_sD]; assumption) | simp [kd_sI, kd_sR, kd_sA, kd_sQ, kd_sL, kd_sD, ln_sI, ln_sR, ln_sA, ln_sQ, ln_sL, ln_sD, gI_sR, gI_sA, gI_sQ, gI_sL, gI_sD, gR_sI, gR_sA, gR_sQ, gR_sL, gR_sD, gA_sI, gA_sR, gA_sQ, gA_sL, gA_sD, gQ_sI, gQ_sR, gQ_sA, gQ_sL, gQ_sD, gL_sI, gL_sR, gL_sA, gL_sQ, gL_sD, kd_nO, kd_nA, *]) (by first | assumption | exact gI_sIs | exact gR_sRs | with_reducible rfl | (simp only [kd_sI, kd_sR, kd_sA, kd_sQ, kd_sL, kd_sD, ln_sI, ln_sR, ln_sA, ln_sQ, ln_sL, ln_sD, gI_sR, gI_sA, gI_sQ, gI_sL, gI_sD, gR_sI, gR_sA, gR_sQ, gR_sL, gR_sD, gA_sI, gA_sR, gA_sQ, gA_sL, gA_sD, gQ_sI, gQ_sR, gQ_sA, gQ_sL, gQ_sD, gL_sI, gL_sR, gL_sA, gL_sQ, gL_sD]; first | done | assumption | with_reducible rfl) | rfl) ?_
        refine r_callV (As := []) (mc' := 0) (ms' := 0) dX2_cut_25 k_X2_88 rfl (by first | assumption | (simp only [kd_sI, kd_sR, kd_sA, kd_sQ, kd_sL, kd_sD, ln_sI, ln_sR, ln_sA, ln_sQ, ln_sL, ln_sD, gI_sR, gI_sA, gI_sQ, gI_sL, gI_sD, gR_sI, gR_sA, gR_sQ, gR_sL, gR_sD, gA_sI, gA_sR, gA_sQ, gA_sL, gA_sD, gQ_sI, gQ_sR, gQ_sA, gQ_sL, gQ_sD, gL_sI, gL_sR, gL_sA, gL_sQ, gL_sD]; assumption) | simp [kd_sI, kd_sR, kd_sA, kd_sQ, kd_sL, kd_sD, ln_sI, ln_sR, ln_sA, ln_sQ, ln_sL, ln_sD, gI_sR, gI_sA, gI_sQ, gI_sL, gI_sD, gR_sI, gR_sA, gR_sQ, gR_sL, gR_sD, gA_sI, gA_sR, gA_sQ, gA_sL, gA_sD, gQ_sI, gQ_sR, gQ_sA, gQ_sL, gQ_sD, gL_sI, gL_sR, gL_sA, gL_sQ, gL_sD, kd_nO, kd_nA, *]) (T := TJ2) (N := 3) rfl (by first | assumption | omega) (by first | assumption | omega) (by first | assumption | omega) (Nat.le_of_ble_eq_true rfl) ?_
        refine s_size y5.1.1 y5.1.2.1 ?_
        show AW mX2_cut G d Qr Qx _ _ H1 28 _ _
        refine r_icmp_ge (tgt := 122) dX2_cut_28 (by decide) (fun h28 => ?_) (fun h28 => ?_)
        · exact absurd h28 (nI_ge (by omega) (by omega))
        · refine r_aload_n (i := 0) dX2_cut_31 rfl rfl ?_
          refine r_getR dX2_cut_32 fR_X2_31 (by first | assumption | (simp only [kd_sI, kd_sR, kd_sA, kd_sQ, kd_sL, kd_sD, ln_sI, ln_sR, ln_sA, ln_sQ, ln_sL, ln_sD, gI_sR, gI_sA, gI_sQ, gI_sL, gI_sD, gR_sI, gR_sA, gR_sQ, gR_sL, gR_sD, gA_sI, gA_sR, gA_sQ, gA_sL, gA_sD, gQ_sI, gQ_sR, gQ_sA, gQ_sL, gQ_sD, gL_sI, gL_sR, gL_sA, gL_sQ, gL_sD]; assumption) | simp [kd_sI, kd_sR, kd_sA, kd_sQ, kd_sL, kd_sD, ln_sI, ln_sR, ln_sA, ln_sQ, ln_sL, ln_sD, gI_sR, gI_sA, gI_sQ, gI_sL, gI_sD, gR_sI, gR_sA, gR_sQ, gR_sL, gR_sD, gA_sI, gA_sR, gA_sQ, gA_sL, gA_sD, gQ_sI, gQ_sR, gQ_sA, gQ_sL, gQ_sD, gL_sI, gL_sR, gL_sA, gL_sQ, gL_sD, kd_nO, kd_nA, *]) (by first | assumption | exact gI_sIs | exact gR_sRs | with_reducible rfl | (simp only [kd_sI, kd_sR, kd_sA, kd_sQ, kd_sL, kd_sD, ln_sI, ln_sR, ln_sA, ln_sQ, ln_sL, ln_sD, gI_sR, gI_sA, gI_sQ, gI_sL, gI_sD, gR_sI, gR_sA, gR_sQ, gR_sL, gR_sD, gA_sI, gA_sR, gA_sQ, gA_sL, gA_sD, gQ_sI, gQ_sR, gQ_sA, gQ_sL, gQ_sD, gL_sI, gL_sR, gL_sA, gL_sQ, gL_sD]; first | done | assumption | with_reducible rfl) | rfl) ?_
          refine r_iload dX2_cut_35 rfl ?_
          refine r_callV (As := [_]) (mc' := 0) (ms' := 0) dX2_cut_37 k_X2_110 rfl (by first | assumption | (simp only [kd_sI, kd_sR, kd_sA, kd_sQ, kd_sL, kd_sD, ln_sI, ln_sR, ln_sA, ln_sQ, ln_sL, ln_sD, gI_sR, gI_sA, gI_sQ, gI_sL, gI_sD, gR_sI, gR_sA, gR_sQ, gR_sL, gR_sD, gA_sI, gA_sR, gA_sQ, gA_sL, gA_sD, gQ_sI, gQ_sR, gQ_sA, gQ_sL, gQ_sD, gL_sI, gL_sR, gL_sA, gL_sQ, gL_sD]; assumption) | simp [kd_sI, kd_sR, kd_sA, kd_sQ, kd_sL, kd_sD, ln_sI, ln_sR, ln_sA, ln_sQ, ln_sL, ln_sD, gI_sR, gI_sA, gI_sQ, gI_sL, gI_sD, gR_sI, gR_sA, gR_sQ, gR_sL, gR_sD, gA_sI, gA_sR, gA_sQ, gA_sL, gA_sD, gQ_sI, gQ_sR, gQ_sA, gQ_sL, gQ_sD, gL_sI, gL_sR, gL_sA, gL_sQ, gL_sD, kd_nO, kd_nA, *]) (T := TJ2) (N := 3) rfl (by first | assumption | omega) (by first | assumption | omega) (by first | assumption | omega) (Nat.le_of_ble_eq_true rfl) ?_
          refine s_get (by omega) y5.1 hjn (by omega) ?_
          show AW mX2_cut G d Qr Qx _ _ H1 40 _ _
          have no : ∀ (st9 : Option AV), ¬ (g (355 + 3 * j) = yy ∧ need ≤ g (356 + 3 * j)) → AW mX2_cut G d Qr Qx 5 31 H1 112 [some (vR (some p)), some (vI (nI i)), some (vR (some (ca i))), some (vI need), some (vI (oI (cutN g yy need j).1)), some (vI (nI j)), some (vR (some (dr j))), st9] [] := by
            intro st9 hno
            rw [if_neg (fun q => hno ⟨q.1, q.2.1⟩)] at hst
            rw [← hst]
            refine r_iload dX2_cut_112 rfl ?_
            refine r_istore dX2_cut_114 (Nat.le_of_ble_eq_true rfl) (by simp only [lset]; rfl) ?_
            refine r_iinc dX2_cut_116 rfl (by first | exact nI_1 _ | rfl) (by simp only [lset]; rfl) ?_
            refine r_goto (tgt := 19) dX2_cut_119 (by decide) ?_
            exact ihn _ _
          refine r_cast dX2_cut_40 (by first | assumption | (simp only [kd_sI, kd_sR, kd_sA, kd_sQ, kd_sL, kd_sD, ln_sI, ln_sR, ln_sA, ln_sQ, ln_sL, ln_sD, gI_sR, gI_sA, gI_sQ, gI_sL, gI_sD, gR_sI, gR_sA, gR_sQ, gR_sL, gR_sD, gA_sI, gA_sR, gA_sQ, gA_sL, gA_sD, gQ_sI, gQ_sR, gQ_sA, gQ_sL, gQ_sD, gL_sI, gL_sR, gL_sA, gL_sQ, gL_sD]; assumption) | simp [kd_sI, kd_sR, kd_sA, kd_sQ, kd_sL, kd_sD, ln_sI, ln_sR, ln_sA, ln_sQ, ln_sL, ln_sD, gI_sR, gI_sA, gI_sQ, gI_sL, gI_sD, gR_sI, gR_sA, gR_sQ, gR_sL, gR_sD, gA_sI, gA_sR, gA_sQ, gA_sL, gA_sD, gQ_sI, gQ_sR, gQ_sA, gQ_sL, gQ_sD, gL_sI, gL_sR, gL_sA, gL_sQ, gL_sD, kd_nO, kd_nA, *]) (T := TX6) (N := 3) rfl q1217 (Or.inl rfl) ?_
          refine r_astore dX2_cut_43 (Nat.le_of_ble_eq_true rfl) (by simp only [lset]; rfl) ?_
          refine r_aload dX2_cut_45 rfl ?_
          refine r_getI dX2_cut_47 fR_X2_281 (by first | assumption | (simp only [kd_sI, kd_sR, kd_sA, kd_sQ, kd_sL, kd_sD, ln_sI, ln_sR, ln_sA, ln_sQ, ln_sL, ln_sD, gI_sR, gI_sA, gI_sQ, gI_sL, gI_sD, gR_sI, gR_sA, gR_sQ, gR_sL, gR_sD, gA_sI, gA_sR, gA_sQ, gA_sL, gA_sD, gQ_sI, gQ_sR, gQ_sA, gQ_sL, gQ_sD, gL_sI, gL_sR, gL_sA, gL_sQ, gL_sD]; assumption) | simp [kd_sI, kd_sR, kd_sA, kd_sQ, kd_sL, kd_sD, ln_sI, ln_sR, ln_sA, ln_sQ, ln_sL, ln_sD, gI_sR, gI_sA, gI_sQ, gI_sL, gI_sD, gR_sI, gR_sA, gR_sQ, gR_sL, gR_sD, gA_sI, gA_sR, gA_sQ, gA_sL, gA_sD, gQ_sI, gQ_sR, gQ_sA, gQ_sL, gQ_sD, gL_sI, gL_sR, gL_sA, gL_sQ, gL_sD, kd_nO, kd_nA, *]) (by first | assumption | exact gI_sIs | exact gR_sRs | with_reducible rfl | (simp only [kd_sI, kd_sR, kd_sA, kd_sQ, kd_sL, kd_sD, ln_sI, ln_sR, ln_sA, ln_sQ, ln_sL, ln_sD, gI_sR, gI_sA, gI_sQ, gI_sL, gI_sD, gR_sI, gR_sA, gR_sQ, gR_sL, gR_sD, gA_sI, gA_sR, gA_sQ, gA_sL, gA_sD, gQ_sI, gQ_sR, gQ_sA, gQ_sL, gQ_sD, gL_sI, gL_sR, gL_sA, gL_sQ, gL_sD]; first | done | assumption | with_reducible rfl) | rfl) ?_
          refine r_aload_n (i := 2) dX2_cut_50 rfl rfl ?_
          refine r_getI dX2_cut_51 fR_X2_235 (by first | assumption | (simp only [kd_sI, kd_sR, kd_sA, kd_sQ, kd_sL, kd_sD, ln_sI, ln_sR, ln_sA, ln_sQ, ln_sL, ln_sD, gI_sR, gI_sA, gI_sQ, gI_sL, gI_sD, gR_sI, gR_sA, gR_sQ, gR_sL, gR_sD, gA_sI, gA_sR, gA_sQ, gA_sL, gA_sD, gQ_sI, gQ_sR, gQ_sA, gQ_sL, gQ_sD, gL_sI, gL_sR, gL_sA, gL_sQ, gL_sD]; assumption) | simp [kd_sI, kd_sR, kd_sA, kd_sQ, kd_sL, kd_sD, ln_sI, ln_sR, ln_sA, ln_sQ, ln_sL, ln_sD, gI_sR, gI_sA, gI_sQ, gI_sL, gI_sD, gR_sI, gR_sA, gR_sQ, gR_sL, gR_sD, gA_sI, gA_sR, gA_sQ, gA_sL, gA_sD, gQ_sI, gQ_sR, gQ_sA, gQ_sL, gQ_sD, gL_sI, gL_sR, gL_sA, gL_sQ, gL_sD, kd_nO, kd_nA, *]) (by first | assumption | exact gI_sIs | exact gR_sRs | with_reducible rfl | (simp only [kd_sI, kd_sR, kd_sA, kd_sQ, kd_sL, kd_sD, ln_sI, ln_sR, ln_sA, ln_sQ, ln_sL, ln_sD, gI_sR, gI_sA, gI_sQ, gI_sL, gI_sD, gR_sI, gR_sA, gR_sQ, gR_sL, gR_sD, gA_sI, gA_sR, gA_sQ, gA_sL, gA_sD, gQ_sI, gQ_sR, gQ_sA, gQ_sL, gQ_sD, gL_sI, gL_sR, gL_sA, gL_sQ, gL_sD]; first | done | assumption | with_reducible rfl) | rfl) ?_
          refine r_icmp_ne (tgt := 70) dX2_cut_54 (by decide) (fun h54 => ?_) (fun h54 => ?_)
          · have h1 : g (355 + 3 * j) ≠ yy := by simpa using h54
            refine r_iconst (v := nI 0) dX2_cut_70 (by decide) ?_
            refine r_istore dX2_cut_71 (Nat.le_of_ble_eq_true rfl) (by simp only [lset]; rfl) ?_
            refine r_iload dX2_cut_73 rfl ?_
            refine r_if_eq (tgt := 112) dX2_cut_75 (by decide) (fun h75 => ?_) (fun h75 => ?_)
            · exact no _ (fun q => h1 q.1)
            · exact absurd rfl h75
          · have h1 : g (355 + 3 * j) = yy := by simpa using h54
            refine r_aload dX2_cut_57 rfl ?_
            refine r_getI dX2_cut_59 fR_X2_282 (by first | assumption | (simp only [kd_sI, kd_sR, kd_sA, kd_sQ, kd_sL, kd_sD, ln_sI, ln_sR, ln_sA, ln_sQ, ln_sL, ln_sD, gI_sR, gI_sA, gI_sQ, gI_sL, gI_sD, gR_sI, gR_sA, gR_sQ, gR_sL, gR_sD, gA_sI, gA_sR, gA_sQ, gA_sL, gA_sD, gQ_sI, gQ_sR, gQ_sA, gQ_sL, gQ_sD, gL_sI, gL_sR, gL_sA, gL_sQ, gL_sD]; assumption) | simp [kd_sI, kd_sR, kd_sA, kd_sQ, kd_sL, kd_sD, ln_sI, ln_sR, ln_sA, ln_sQ, ln_sL, ln_sD, gI_sR, gI_sA, gI_sQ, gI_sL, gI_sD, gR_sI, gR_sA, gR_sQ, gR_sL, gR_sD, gA_sI, gA_sR, gA_sQ, gA_sL, gA_sD, gQ_sI, gQ_sR, gQ_sA, gQ_sL, gQ_sD, gL_sI, gL_sR, gL_sA, gL_sQ, gL_sD, kd_nO, kd_nA, *]) (by first | assumption | exact gI_sIs | exact gR_sRs | with_reducible rfl | (simp only [kd_sI, kd_sR, kd_sA, kd_sQ, kd_sL, kd_sD, ln_sI, ln_sR, ln_sA, ln_sQ, ln_sL, ln_sD, gI_sR, gI_sA, gI_sQ, gI_sL, gI_sD, gR_sI, gR_sA, gR_sQ, gR_sL, gR_sD, gA_sI, gA_sR, gA_sQ, gA_sL, gA_sD, gQ_sI, gQ_sR, gQ_sA, gQ_sL, gQ_sD, gL_sI, gL_sR, gL_sA, gL_sQ, gL_sD]; first | done | assumption | with_reducible rfl) | rfl) ?_
            refine r_iload_n (i := 3) dX2_cut_62 rfl rfl ?_
            refine r_icmp_lt (tgt := 70) dX2_cut_63 (by decide) (fun h63 => ?_) (fun h63 => ?_)
            · have h2 : ¬ need ≤ g (356 + 3 * j) := by rw [Int32.not_le]; exact h63
              refine r_iconst (v := nI 0) dX2_cut_70 (by decide) ?_
              refine r_istore dX2_cut_71 (Nat.le_of_ble_eq_true rfl) (by simp only [lset]; rfl) ?_
              refine r_iload dX2_cut_73 rfl ?_
              refine r_if_eq (tgt := 112) dX2_cut_75 (by decide) (fun h75 => ?_) (fun h75 => ?_)
              · exact no _ (fun q => h2 q.2)
              · exact absurd rfl h75
            · have h2 : need ≤ g (356 + 3 * j) := by rw [← Int32.not_lt]; exact h63
              refine r_iconst (v := nI 1) dX2_cut_66 (by decide) ?_
              refine r_goto (tgt := 71) dX2_cut_67 (by decide) ?_
              refine r_istore dX2_cut_71 (Nat.le_of_ble_eq_true rfl) (by simp only [lset]; rfl) ?_
              refine r_iload dX2_cut_73 rfl ?_
              refine r_if_eq (tgt := 112) dX2_cut_75 (by decide) (fun h75 => ?_) (fun h75 => ?_)
              · exact absurd (show (nI 1 : Int32) = 0 from h75) (by decide)
              · have yes : (∀ f, (cutN g yy need j).1 = some f → g (356 + 3 * j) < g (356 + 3 * f)) → AW mX2_cut G d Qr Qx 5 31 H1 107 [some (vR (some p)), some (vI (nI i)), some (vR (some (ca i))), some (vI need), some (vI (oI (cutN g yy need j).1)), some (vI (nI j)), some (vR (some (dr j))), some (vI (nI 1))] [] := by
                  intro hy
                  rw [if_pos ⟨h1, h2, hy⟩] at hst
                  refine r_iload dX2_cut_107 rfl ?_
                  refine r_goto (tgt := 114) dX2_cut_109 (by decide) ?_
                  refine r_istore dX2_cut_114 (Nat.le_of_ble_eq_true rfl) (by simp only [lset]; rfl) ?_
                  refine r_iinc dX2_cut_116 rfl (by first | exact nI_1 _ | rfl) (by simp only [lset]; rfl) ?_
                  refine r_goto (tgt := 19) dX2_cut_119 (by decide) ?_
                  have := ihn (some (vR (some (dr j)))) (some (vI (nI 1)))
                  rw [hst] at this
                  exact this
                have hlj := hlt j
                cases hcn : (cutN g yy need j).1 with
                | none =>
                  rw [hcn] at yes
                  refine r_iload dX2_cut_78 rfl ?_
                  refine r_iconst (v := -1) dX2_cut_80 (by decide) ?_
                  refine r_icmp_eq (tgt := 107) dX2_cut_81 (by decide) (fun h81 => ?_) (fun h81 => ?_)
                  · exact yes (fun f h => by cases h)
                  · exact absurd (show oI none = -1 from rfl) h81
                | some f =>
                  have hf := hlj f hcn
                  have hdf := y5.2.2.2.1 f (by omega)
                  have kdf := hdf.1.1
                  have f32f : gI H1 32 (dr f) = g (356 + 3 * f) := hdf.1.2.2.2.trans (by unfold dvOf; rw [show 355 + 3 * f + 1 = 356 + 3 * f by omega])
                  rw [hcn] at yes
                  refine r_iload dX2_cut_78 rfl ?_
                  refine r_iconst (v := -1) dX2_cut_80 (by decide) ?_
                  refine r_icmp_eq (tgt := 107) dX2_cut_81 (by decide) (fun h81 => ?_) (fun h81 => ?_)
                  · exact absurd h81 (oI_lt (by omega))
                  · show AW mX2_cut G d Qr Qx _ _ H1 84 [some (vR (some p)), some (vI (nI i)), some (vR (some (ca i))), some (vI need), some (vI (nI f)), some (vI (nI j)), some (vR (some (dr j))), some (vI (nI 1))] _
                    refine r_aload dX2_cut_84 rfl ?_
                    refine r_getI dX2_cut_86 fR_X2_282 (by first | assumption | (simp only [kd_sI, kd_sR, kd_sA, kd_sQ, kd_sL, kd_sD, ln_sI, ln_sR, ln_sA, ln_sQ, ln_sL, ln_sD, gI_sR, gI_sA, gI_sQ, gI_sL, gI_sD, gR_sI, gR_sA, gR_sQ, gR_sL, gR_sD, gA_sI, gA_sR, gA_sQ, gA_sL, gA_sD, gQ_sI, gQ_sR, gQ_sA, gQ_sL, gQ_sD, gL_sI, gL_sR, gL_sA, gL_sQ, gL_sD]; assumption) | simp [kd_sI, kd_sR, kd_sA, kd_sQ, kd_sL, kd_sD, ln_sI, ln_sR, ln_sA, ln_sQ, ln_sL, ln_sD, gI_sR, gI_sA, gI_sQ, gI_sL, gI_sD, gR_sI, gR_sA, gR_sQ, gR_sL, gR_sD, gA_sI, gA_sR, gA_sQ, gA_sL, gA_sD, gQ_sI, gQ_sR, gQ_sA, gQ_sL, gQ_sD, gL_sI, gL_sR, gL_sA, gL_sQ, gL_sD, kd_nO, kd_nA, *]) (by first | assumption | exact gI_sIs | exact gR_sRs | with_reducible rfl | (simp only [kd_sI, kd_sR, kd_sA, kd_sQ, kd_sL, kd_sD, ln_sI, ln_sR, ln_sA, ln_sQ, ln_sL, ln_sD, gI_sR, gI_sA, gI_sQ, gI_sL, gI_sD, gR_sI, gR_sA, gR_sQ, gR_sL, gR_sD, gA_sI, gA_sR, gA_sQ, gA_sL, gA_sD, gQ_sI, gQ_sR, gQ_sA, gQ_sL, gQ_sD, gL_sI, gL_sR, gL_sA, gL_sQ, gL_sD]; first | done | assumption | with_reducible rfl) | rfl) ?_
                    refine r_aload_n (i := 0) dX2_cut_89 rfl rfl ?_
                    refine r_getR dX2_cut_90 fR_X2_31 (by first | assumption | (simp only [kd_sI, kd_sR, kd_sA, kd_sQ, kd_sL, kd_sD, ln_sI, ln_sR, ln_sA, ln_sQ, ln_sL, ln_sD, gI_sR, gI_sA, gI_sQ, gI_sL, gI_sD, gR_sI, gR_sA, gR_sQ, gR_sL, gR_sD, gA_sI, gA_sR, gA_sQ, gA_sL, gA_sD, gQ_sI, gQ_sR, gQ_sA, gQ_sL, gQ_sD, gL_sI, gL_sR, gL_sA, gL_sQ, gL_sD]; assumption) | simp [kd_sI, kd_sR, kd_sA, kd_sQ, kd_sL, kd_sD, ln_sI, ln_sR, ln_sA, ln_sQ, ln_sL, ln_sD, gI_sR, gI_sA, gI_sQ, gI_sL, gI_sD, gR_sI, gR_sA, gR_sQ, gR_sL, gR_sD, gA_sI, gA_sR, gA_sQ, gA_sL, gA_sD, gQ_sI, gQ_sR, gQ_sA, gQ_sL, gQ_sD, gL_sI, gL_sR, gL_sA, gL_sQ, gL_sD, kd_nO, kd_nA, *]) (by first | assumption | exact gI_sIs | exact gR_sRs | with_reducible rfl | (simp only [kd_sI, kd_sR, kd_sA, kd_sQ, kd_sL, kd_sD, ln_sI, ln_sR, ln_sA, ln_sQ, ln_sL, ln_sD, gI_sR, gI_sA, gI_sQ, gI_sL, gI_sD, gR_sI, gR_sA, gR_sQ, gR_sL, gR_sD, gA_sI, gA_sR, gA_sQ, gA_sL, gA_sD, gQ_sI, gQ_sR, gQ_sA, gQ_sL, gQ_sD, gL_sI, gL_sR, gL_sA, gL_sQ, gL_sD]; first | done | assumption | with_reducible rfl) | rfl) ?_
                    refine r_iload dX2_cut_93 rfl ?_
                    refine r_callV (As := [_]) (mc' := 0) (ms' := 0) dX2_cut_95 k_X2_110 rfl (by first | assumption | (simp only [kd_sI, kd_sR, kd_sA, kd_sQ, kd_sL, kd_sD, ln_sI, ln_sR, ln_sA, ln_sQ, ln_sL, ln_sD, gI_sR, gI_sA, gI_sQ, gI_sL, gI_sD, gR_sI, gR_sA, gR_sQ, gR_sL, gR_sD, gA_sI, gA_sR, gA_sQ, gA_sL, gA_sD, gQ_sI, gQ_sR, gQ_sA, gQ_sL, gQ_sD, gL_sI, gL_sR, gL_sA, gL_sQ, gL_sD]; assumption) | simp [kd_sI, kd_sR, kd_sA, kd_sQ, kd_sL, kd_sD, ln_sI, ln_sR, ln_sA, ln_sQ, ln_sL, ln_sD, gI_sR, gI_sA, gI_sQ, gI_sL, gI_sD, gR_sI, gR_sA, gR_sQ, gR_sL, gR_sD, gA_sI, gA_sR, gA_sQ, gA_sL, gA_sD, gQ_sI, gQ_sR, gQ_sA, gQ_sL, gQ_sD, gL_sI, gL_sR, gL_sA, gL_sQ, gL_sD, kd_nO, kd_nA, *]) (T := TJ2) (N := 3) rfl (by first | assumption | omega) (by first | assumption | omega) (by first | assumption | omega) (Nat.le_of_ble_eq_true rfl) ?_
                    refine s_get (by omega) y5.1 (by omega) (by omega) ?_
                    show AW mX2_cut G d Qr Qx _ _ H1 98 _ _
                    refine r_cast dX2_cut_98 (by first | assumption | (simp only [kd_sI, kd_sR, kd_sA, kd_sQ, kd_sL, kd_sD, ln_sI, ln_sR, ln_sA, ln_sQ, ln_sL, ln_sD, gI_sR, gI_sA, gI_sQ, gI_sL, gI_sD, gR_sI, gR_sA, gR_sQ, gR_sL, gR_sD, gA_sI, gA_sR, gA_sQ, gA_sL, gA_sD, gQ_sI, gQ_sR, gQ_sA, gQ_sL, gQ_sD, gL_sI, gL_sR, gL_sA, gL_sQ, gL_sD]; assumption) | simp [kd_sI, kd_sR, kd_sA, kd_sQ, kd_sL, kd_sD, ln_sI, ln_sR, ln_sA, ln_sQ, ln_sL, ln_sD, gI_sR, gI_sA, gI_sQ, gI_sL, gI_sD, gR_sI, gR_sA, gR_sQ, gR_sL, gR_sD, gA_sI, gA_sR, gA_sQ, gA_sL, gA_sD, gQ_sI, gQ_sR, gQ_sA, gQ_sL, gQ_sD, gL_sI, gL_sR, gL_sA, gL_sQ, gL_sD, kd_nO, kd_nA, *]) (T := TX6) (N := 3) rfl q1217 (Or.inl rfl) ?_
                    refine r_getI dX2_cut_101 fR_X2_282 (by first | assumption | (simp only [kd_sI, kd_sR, kd_sA, kd_sQ, kd_sL, kd_sD, ln_sI, ln_sR, ln_sA, ln_sQ, ln_sL, ln_sD, gI_sR, gI_sA, gI_sQ, gI_sL, gI_sD, gR_sI, gR_sA, gR_sQ, gR_sL, gR_sD, gA_sI, gA_sR, gA_sQ, gA_sL, gA_sD, gQ_sI, gQ_sR, gQ_sA, gQ_sL, gQ_sD, gL_sI, gL_sR, gL_sA, gL_sQ, gL_sD]; assumption) | simp [kd_sI, kd_sR, kd_sA, kd_sQ, kd_sL, kd_sD, ln_sI, ln_sR, ln_sA, ln_sQ, ln_sL, ln_sD, gI_sR, gI_sA, gI_sQ, gI_sL, gI_sD, gR_sI, gR_sA, gR_sQ, gR_sL, gR_sD, gA_sI, gA_sR, gA_sQ, gA_sL, gA_sD, gQ_sI, gQ_sR, gQ_sA, gQ_sL, gQ_sD, gL_sI, gL_sR, gL_sA, gL_sQ, gL_sD, kd_nO, kd_nA, *]) (by first | assumption | exact gI_sIs | exact gR_sRs | with_reducible rfl | (simp only [kd_sI, kd_sR, kd_sA, kd_sQ, kd_sL, kd_sD, ln_sI, ln_sR, ln_sA, ln_sQ, ln_sL, ln_sD, gI_sR, gI_sA, gI_sQ, gI_sL, gI_sD, gR_sI, gR_sA, gR_sQ, gR_sL, gR_sD, gA_sI, gA_sR, gA_sQ, gA_sL, gA_sD, gQ_sI, gQ_sR, gQ_sA, gQ_sL, gQ_sD, gL_sI, gL_sR, gL_sA, gL_sQ, gL_sD]; first | done | assumption | with_reducible rfl) | rfl) ?_
                    refine r_icmp_ge (tgt := 112) dX2_cut_104 (by decide) (fun h104 => ?_) (fun h104 => ?_)
                    · have h3 : ¬ g (356 + 3 * j) < g (356 + 3 * f) := by rw [Int32.not_lt]; exact h104
                      rw [if_neg (fun q => h3 (q.2.2 f hcn))] at hst
                      have := ihn (some (vR (some (dr j)))) (some (vI (nI 1)))
                      rw [hst, hcn] at this
                      refine r_iload dX2_cut_112 rfl ?_
                      refine r_istore dX2_cut_114 (Nat.le_of_ble_eq_true rfl) (by simp only [lset]; rfl) ?_
                      refine r_iinc dX2_cut_116 rfl (by first | exact nI_1 _ | rfl) (by simp only [lset]; rfl) ?_
                      refine r_goto (tgt := 19) dX2_cut_119 (by decide) ?_
                      exact this
                    · have h3 : g (356 + 3 * j) < g (356 + 3 * f) := by rw [← Int32.not_le]; exact h104
                      exact yes (fun f' h => by cases h; exact h3)
    exact loop n 0 _ _ (by omega)
  · unfold ctL
    rcases hl with ⟨hc, rfl⟩ | ⟨hc, hne, rfl⟩
    · rw [if_pos hc]
    · rw [hc, if_neg (by decide), if_neg hne]
end Cut
