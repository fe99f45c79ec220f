set_option maxRecDepth 100000
/-! A CABLE IS FREED, SCRAPPED; SMALL CHANGES -/
section Free
variable {G : Gl} {d : Nat} {Qr : Option AV → AH → Prop} {Qx : String → Nat → AH → Prop} {H : AH} {O : Nat → Nat} {p t : Nat} {A : PA} {g : Nat → Int32} {eT eR eC eD : Nat} {ty nm nd tr tc tf tu ca rl re dr : Nat → Nat} {st : Nat → Nat → Nat}
theorem small_v {k : Nat} {v : Int32} (hB : GB g) (hk : k < 3) : (∀ i, 3 ≤ i → upd g k v i = g i) ∧ nat (upd g k v) 3 = nat g 3 ∧ nat (upd g k v) 40 = nat g 40 ∧ nat (upd g k v) 101 = nat g 101 ∧ nat (upd g k v) 354 = nat g 354 ∧ ∀ t, tvOf (upd g k v) t = tvOf g t := by
  have h : ∀ i, 3 ≤ i → upd g k v i = g i := fun i hi => upd_n (by omega)
  exact ⟨h, nat_eq (h _ (by omega)), nat_eq (h _ (by omega)), nat_eq (h _ (by omega)), nat_eq (h _ (by omega)), fun t => tv_ag hB (Or.inl (fun i h1 h2 => h i (by omega))) (fun w hw => h _ (by omega)) (fun i h1 h2 => h i (by omega))⟩
theorem parts_small {k l2 l3 l4 l5 : Nat} {v : Int32} (hI : IG g) (hk : k < 3) (h2 : TyX G H O l2 A.ty A.M (nat g 3) g eT ty nm nd) (h3 : TrX G H O l3 A.tr (nat g 40) (tvOf g) eR tr tc tf tu) (h4 : CaX G H O l4 A.ca (nat g 101) (cvOf g) eC ca rl re st) (h5 : DrX G H O l5 A.dr (nat g 354) (dvOf g) eD dr) : TyX G H O l2 A.ty A.M (nat (upd g k v) 3) (upd g k v) eT ty nm nd ∧ TrX G H O l3 A.tr (nat (upd g k v) 40) (tvOf (upd g k v)) eR tr tc tf tu ∧ CaX G H O l4 A.ca (nat (upd g k v) 101) (cvOf (upd g k v)) eC ca rl re st ∧ DrX G H O l5 A.dr (nat (upd g k v) 354) (dvOf (upd g k v)) eD dr := by
  obtain ⟨a1, a2, a3, a4, a5, a6⟩ := small_v (k := k) (v := v) hI.1 hk
  have hYY := hI.2.2.2.2.2.2.2.1
  rw [a2, a3, a4, a5]
  refine ⟨h2.to (fun y hy => by have := (hYY.1 y hy).1.2; show nat g (7 + 6 * y) ≤ 3; omega) (fun y i _ _ => a1 _ (by omega)), h3.to (fun t _ => a6 t), h4.to (fun c k _ _ => a1 _ (by omega)), h5.to (fun x k _ _ => a1 _ (by omega))⟩
theorem IsP.small {k : Nat} {v : Int32} {H1 : AH} (hP : IsP G H O t p A g) (hI : IG g) (hk : k < 3) (hK : Ks (fun a => a = p) H H1) (z : kd H1 (gSt G 1) = 0) (hr : gR H1 = gR H) (h13 : gI H1 13 p = upd g k v 0) (h14 : gI H1 14 p = upd g k v 1) (h15 : gI H1 15 p = upd g k v 2) : Stq G (fun b => O b = 8 * t + 1) H O H1 O ∧ IsP G H1 O t p A (upd g k v) := by
  obtain ⟨t0, h1, ⟨eT, ty, nm, nd, h2⟩, ⟨eR, tr, tc, tf, tu, h3⟩, ⟨eC, ca, rl, re, st, h4⟩, ⟨eD, dr, h5⟩⟩ := hP
  obtain ⟨s, f1⟩ := h1.set hK z hr h13 h14 h15
  obtain ⟨k2, k3, k4, k5⟩ := parts_small (v := v) hI hk (h2.ks s (fun b _ e => ⟨by omega, by omega, fun h => by omega⟩)) (h3.ks s (fun b _ e => by omega)) (h4.ks s (fun b _ e => ⟨by omega, by omega⟩)) (h5.ks s (fun b _ e => by omega))
  exact ⟨s, t0, f1, ⟨_, _, _, _, k2⟩, ⟨_, _, _, _, _, k3⟩, ⟨_, _, _, _, _, k4⟩, ⟨_, _, k5⟩⟩
/-- a plan behind a leaving -/
theorem leave_isP {H' : AH} {O' : Nat → Nat} {c : Nat} (t0 : 1 ≤ t) (hI : IG g) (hc : c < nat g 101) (h1 : PlF H O (8 * t + 1) p A.ty A.M A.tr A.ca A.dr (g 0) (g 1) (g 2)) (h2 : TyX G H O (8 * t + 2) A.ty A.M (nat g 3) g eT ty nm nd) (h5 : DrX G H O (8 * t + 5) A.dr (nat g 354) (dvOf g) eD dr) (s : Stq G (fun b => O b = 8 * t + 3 ∨ O b = 8 * t + 4) H O H' O') (h3 : TrX G H' O' (8 * t + 3) A.tr (nat g 40) (tvOf (leavesG g c)) eR tr tc tf tu) (h4 : ∃ re' st', CaX G H' O' (8 * t + 4) A.ca (nat g 101) (cvOf (leavesG g c)) eC ca rl re' st') : IsPlan G H' O' t p (leavesG g c) := by
  have hB := hI.1
  have h40 := hB.2.1.2
  have h101 := hB.2.2.1.2
  have h36 := hB.1.2
  have hYY := hI.2.2.2.2.2.2.2.1
  obtain ⟨re4, st4, h4⟩ := h4
  obtain ⟨out, -⟩ := leavesG_v (g := g) (c0 := c)
  have w1 := h1.ks s (fun b _ e => by omega)
  have w2 := h2.ks s (fun b _ e => ⟨by omega, by omega, fun h => by omega⟩)
  have w5 := h5.ks s (fun b _ e => by omega)
  rw [← out 0 (by omega), ← out 1 (by omega), ← out 2 (by omega)] at w1
  have w2' := w2.to (g' := leavesG g c) (fun y hy => by have := (hYY.1 y hy).1.2; show nat g (7 + 6 * y) ≤ 3; omega) (fun y k hy hk => out _ (by omega))
  have w5' := w5.to (dv' := dvOf (leavesG g c)) (fun x k hx hk => by unfold dvOf; exact out _ (by omega))
  rw [← nat_eq (out 3 (by omega))] at w2'
  rw [← nat_eq (out 40 (by omega))] at h3
  rw [← nat_eq (out 101 (by omega))] at h4
  rw [← nat_eq (out 354 (by omega))] at w5'
  exact ⟨A, t0, w1, ⟨_, _, _, _, w2'⟩, ⟨_, _, _, _, _, h3⟩, ⟨_, _, _, _, _, h4⟩, ⟨_, _, w5'⟩⟩
theorem pl_free {c : Int32} (hd : 8 ≤ d) (hP : IsP G H O t p A g) (hI : IG g) (hQ : ∀ c0, c = nI c0 → c0 < nat g 101 → isC g c = true → g (105 + 21 * c0) ≠ nI 2 → ∀ H' O', Stq G (fun b => O b / 8 = t) H O H' O' → IsPlan G H' O' t p (leavesG g c0) → Qr (some (vI (g (106 + 21 * c0)))) H') (hX1 : isC g c = false → ∀ q, Qx "java/lang/IndexOutOfBoundsException" q H) (hX2 : ∀ c0, c = nI c0 → c0 < nat g 101 → isC g c = true → g (105 + 21 * c0) = nI 2 → ∀ q, Qx "java/lang/IllegalStateException" q H) : AMet G d 3 16 yX2_free wX2_free H [vR (some p), vI c] Qr Qx := by
  obtain ⟨t0, h1, ⟨eT, ty, nm, nd, h2⟩, ⟨eR, tr, tc, tf, tu, h3⟩, ⟨eC, ca, rl, re, st, h4⟩, ⟨eD, dr, h5⟩⟩ := hP
  have h19 := h1
  obtain ⟨⟨p1, p8, p9, p10, p11, p12, p13, p14, p15⟩, pO⟩ := h1
  have hB := hI.1
  have h101 := hB.2.2.1.2
  have e9 : inB c (nI 0) (nI (nat g 101) - nI 1) = isC g c := by unfold isC; rw [← hB.2.2.1.1]
  refine AMet.of (M := mX2_free) (maxL := 3) (by first | rfl | decide +kernel) rfl (Nat.le_of_ble_eq_true rfl) ?_
  show AW mX2_free _ _ _ _ _ _ _ 0 [some (vR (some p)), some (vI c), none] []
  refine AW.st0 (fun z0 => ?_)
  refine r_aload_n (i := 0) dX2_free_0 rfl rfl ?_
  refine r_iload_n (i := 1) dX2_free_1 rfl rfl ?_
  refine r_callV (As := [_]) (mc' := 1) (ms' := 6) dX2_free_2 k_X2_271 rfl (by first | assumption | (simp only [kd_sI, kd_sR, kd_sA, kd_sQ, kd_sL, kd_sD, ln_sI, ln_sR, ln_sA, ln_sQ, ln_sL, ln_sD, gI_sR, gI_sA, gI_sQ, gI_sL, gI_sD, gR_sI, gR_sA, gR_sQ, gR_sL, gR_sD, gA_sI, gA_sR, gA_sQ, gA_sL, gA_sD, gQ_sI, gQ_sR, gQ_sA, gQ_sL, gQ_sD, gL_sI, gL_sR, gL_sA, gL_sQ, gL_sD]; assumption) | simp [kd_sI, kd_sR, kd_sA, kd_sQ, kd_sL, kd_sD, ln_sI, ln_sR, ln_sA, ln_sQ, ln_sL, ln_sD, gI_sR, gI_sA, gI_sQ, gI_sL, gI_sD, gR_sI, gR_sA, gR_sQ, gR_sL, gR_sD, gA_sI, gA_sR, gA_sQ, gA_sL, gA_sD, gQ_sI, gQ_sR, gQ_sA, gQ_sL, gQ_sD, gL_sI, gL_sR, gL_sA, gL_sQ, gL_sD, kd_nO, kd_nA, *]) (T := TX2) (N := 8) rfl (by first | assumption | omega) (by first | assumption | omega) (by first | assumption | omega) (Nat.le_of_ble_eq_true rfl) ?_
  refine c_pcable (by omega) p1 p11 h4.1 (by omega) (fun i hi => (h4.2.2.2.1 i hi).1.1.1) (fun hc i hi ec => ?_) (fun hc q => x_out (by decide) (hX1 (by rw [← e9]; exact hc) q))
  rw [e9] at hc
  subst ec
  have kx := (h4.2.2.2.1 i hi).1.1
  have kc := kx.1
  have f26 : gI H 26 (ca i) = g (105 + 21 * i) := kx.2.2.2.2.1.trans (cv_at i _ (by omega))
  show AW mX2_free G d Qr Qx _ _ H 5 _ _
  by_cases hs : g (105 + 21 * i) = nI 2
  · refine r_astore_n (i := 2) dX2_free_5 rfl (Nat.le_of_ble_eq_true rfl) (by simp only [lset]; rfl) ?_
    refine r_aload_n (i := 2) dX2_free_6 rfl rfl ?_
    refine r_getI dX2_free_7 fR_X2_211 (by first | assumption | (simp only [kd_sI, kd_sR, kd_sA, kd_sQ, kd_sL, kd_sD, ln_sI, ln_sR, ln_sA, ln_sQ, ln_sL, ln_sD, gI_sR, gI_sA, gI_sQ, gI_sL, gI_sD, gR_sI, gR_sA, gR_sQ, gR_sL, gR_sD, gA_sI, gA_sR, gA_sQ, gA_sL, gA_sD, gQ_sI, gQ_sR, gQ_sA, gQ_sL, gQ_sD, gL_sI, gL_sR, gL_sA, gL_sQ, gL_sD]; assumption) | simp [kd_sI, kd_sR, kd_sA, kd_sQ, kd_sL, kd_sD, ln_sI, ln_sR, ln_sA, ln_sQ, ln_sL, ln_sD, gI_sR, gI_sA, gI_sQ, gI_sL, gI_sD, gR_sI, gR_sA, gR_sQ, gR_sL, gR_sD, gA_sI, gA_sR, gA_sQ, gA_sL, gA_sD, gQ_sI, gQ_sR, gQ_sA, gQ_sL, gQ_sD, gL_sI, gL_sR, gL_sA, gL_sQ, gL_sD, kd_nO, kd_nA, *]) (by first | assumption | exact gI_sIs | exact gR_sRs | with_reducible rfl | (simp only [kd_sI, kd_sR, kd_sA, kd_sQ, kd_sL, kd_sD, ln_sI, ln_sR, ln_sA, ln_sQ, ln_sL, ln_sD, gI_sR, gI_sA, gI_sQ, gI_sL, gI_sD, gR_sI, gR_sA, gR_sQ, gR_sL, gR_sD, gA_sI, gA_sR, gA_sQ, gA_sL, gA_sD, gQ_sI, gQ_sR, gQ_sA, gQ_sL, gQ_sD, gL_sI, gL_sR, gL_sA, gL_sQ, gL_sD]; first | done | assumption | with_reducible rfl) | rfl) ?_
    refine r_iconst (v := nI 2) dX2_free_10 (by decide) ?_
    refine r_icmp_eq (tgt := 18) dX2_free_11 (by decide) (fun h11 => ?_) (fun h11 => ?_)
    · refine r_iconst (v := nI 0) dX2_free_18 (by decide) ?_
      refine r_callSN (As := [_]) (mc' := 1) (ms' := 6) dX2_free_19 k_X2_131 rfl (by first | assumption | omega) (by first | assumption | omega) (by first | assumption | omega) (Nat.le_of_ble_eq_true rfl) ?_
      refine s_checkState (b := false) (by omega) (fun h => by cases h) (fun _ q => x_out (by decide) (hX2 i rfl hi hc hs q))
    · exact absurd hs h11
  · refine r_astore_n (i := 2) dX2_free_5 rfl (Nat.le_of_ble_eq_true rfl) (by simp only [lset]; rfl) ?_
    refine r_aload_n (i := 2) dX2_free_6 rfl rfl ?_
    refine r_getI dX2_free_7 fR_X2_211 (by first | assumption | (simp only [kd_sI, kd_sR, kd_sA, kd_sQ, kd_sL, kd_sD, ln_sI, ln_sR, ln_sA, ln_sQ, ln_sL, ln_sD, gI_sR, gI_sA, gI_sQ, gI_sL, gI_sD, gR_sI, gR_sA, gR_sQ, gR_sL, gR_sD, gA_sI, gA_sR, gA_sQ, gA_sL, gA_sD, gQ_sI, gQ_sR, gQ_sA, gQ_sL, gQ_sD, gL_sI, gL_sR, gL_sA, gL_sQ, gL_sD]; assumption) | simp [kd_sI, kd_sR, kd_sA, kd_sQ, kd_sL, kd_sD, ln_sI, ln_sR, ln_sA, ln_sQ, ln_sL, ln_sD, gI_sR, gI_sA, gI_sQ, gI_sL, gI_sD, gR_sI, gR_sA, gR_sQ, gR_sL, gR_sD, gA_sI, gA_sR, gA_sQ, gA_sL, gA_sD, gQ_sI, gQ_sR, gQ_sA, gQ_sL, gQ_sD, gL_sI, gL_sR, gL_sA, gL_sQ, gL_sD, kd_nO, kd_nA, *]) (by first | assumption | exact gI_sIs | exact gR_sRs | with_reducible rfl | (simp only [kd_sI, kd_sR, kd_sA, kd_sQ, kd_sL, kd_sD, ln_sI, ln_sR, ln_sA, ln_sQ, ln_sL, ln_sD, gI_sR, gI_sA, gI_sQ, gI_sL, gI_sD, gR_sI, gR_sA, gR_sQ, gR_sL, gR_sD, gA_sI, gA_sR, gA_sQ, gA_sL, gA_sD, gQ_sI, gQ_sR, gQ_sA, gQ_sL, gQ_sD, gL_sI, gL_sR, gL_sA, gL_sQ, gL_sD]; first | done | assumption | with_reducible rfl) | rfl) ?_
    refine r_iconst (v := nI 2) dX2_free_10 (by decide) ?_
    refine r_icmp_eq (tgt := 18) dX2_free_11 (by decide) (fun h11 => ?_) (fun h11 => ?_)
    · exact absurd h11 hs
    · refine r_iconst (v := nI 1) dX2_free_14 (by decide) ?_
      refine r_goto (tgt := 19) dX2_free_15 (by decide) ?_
      refine r_callSN (As := [_]) (mc' := 1) (ms' := 6) dX2_free_19 k_X2_131 rfl (by first | assumption | omega) (by first | assumption | omega) (by first | assumption | omega) (Nat.le_of_ble_eq_true rfl) ?_
      refine s_checkState (b := true) (by omega) (fun _ => ?_) (fun h => by cases h)
      show AW mX2_free G d Qr Qx _ _ H 22 _ _
      refine r_aload_n (i := 0) dX2_free_22 rfl rfl ?_
      refine r_aload_n (i := 2) dX2_free_23 rfl rfl ?_
      refine r_callV (As := [_]) (mc' := 1) (ms' := 4) dX2_free_24 k_X2_275 rfl (by first | assumption | (simp only [kd_sI, kd_sR, kd_sA, kd_sQ, kd_sL, kd_sD, ln_sI, ln_sR, ln_sA, ln_sQ, ln_sL, ln_sD, gI_sR, gI_sA, gI_sQ, gI_sL, gI_sD, gR_sI, gR_sA, gR_sQ, gR_sL, gR_sD, gA_sI, gA_sR, gA_sQ, gA_sL, gA_sD, gQ_sI, gQ_sR, gQ_sA, gQ_sL, gQ_sD, gL_sI, gL_sR, gL_sA, gL_sQ, gL_sD]; assumption) | simp [kd_sI, kd_sR, kd_sA, kd_sQ, kd_sL, kd_sD, ln_sI, ln_sR, ln_sA, ln_sQ, ln_sL, ln_sD, gI_sR, gI_sA, gI_sQ, gI_sL, gI_sD, gR_sI, gR_sA, gR_sQ, gR_sL, gR_sD, gA_sI, gA_sR, gA_sQ, gA_sL, gA_sD, gQ_sI, gQ_sR, gQ_sA, gQ_sL, gQ_sD, gL_sI, gL_sR, gL_sA, gL_sQ, gL_sD, kd_nO, kd_nA, *]) (T := TX2) (N := 8) rfl (by first | assumption | omega) (by first | assumption | omega) (by first | assumption | omega) (Nat.le_of_ble_eq_true rfl) ?_
      refine pl_leave (by omega) h19 t0 h2 h3 h4 z0 hI hi (fun H2 O2 s2 _ T2 C2 => ?_)
      show AW mX2_free G d Qr Qx _ _ H2 27 _ _
      refine r_ireturn dX2_free_27 rfl (by first | rfl | assumption | exact vp_nar_int _ | exact pk_nc _) ?_
      exact hQ i rfl hi hc hs H2 O2 (s2.mono (fun b _ e => by omega)) (leave_isP t0 hI hi h19 h2 h5 s2 T2 C2)
theorem pl_scrap {c : Int32} (hd : 8 ≤ d) (hP : IsP G H O t p A g) (hI : IG g) (hQ : ∀ c0, c = nI c0 → c0 < nat g 101 → isC g c = true → g (105 + 21 * c0) = nI 2 → ∀ H' O', Stq G (fun b => O b / 8 = t) H O H' O' → IsPlan G H' O' t p (leavesG (upd g 2 (g 2 + g (107 + 21 * c0))) c0) → Qr (some (vI (g (107 + 21 * c0)))) H') (hX1 : isC g c = false → ∀ q, Qx "java/lang/IndexOutOfBoundsException" q H) (hX2 : ∀ c0, c = nI c0 → c0 < nat g 101 → isC g c = true → g (105 + 21 * c0) ≠ nI 2 → ∀ q, Qx "java/lang/IllegalStateException" q H) : AMet G d 3 16 yX2_scrap wX2_scrap H [vR (some p), vI c] Qr Qx := by
  obtain ⟨t0, h1, ⟨eT, ty, nm, nd, h2⟩, ⟨eR, tr, tc, tf, tu, h3⟩, ⟨eC, ca, rl, re, st, h4⟩, ⟨eD, dr, h5⟩⟩ := hP
  have h19 := h1
  obtain ⟨⟨p1, p8, p9, p10, p11, p12, p13, p14, p15⟩, pO⟩ := h1
  have hB := hI.1
  have h101 := hB.2.2.1.2
  have e9 : inB c (nI 0) (nI (nat g 101) - nI 1) = isC g c := by unfold isC; rw [← hB.2.2.1.1]
  refine AMet.of (M := mX2_scrap) (maxL := 5) (by first | rfl | decide +kernel) rfl (Nat.le_of_ble_eq_true rfl) ?_
  show AW mX2_scrap _ _ _ _ _ _ _ 0 [some (vR (some p)), some (vI c), none, none, none] []
  refine r_aload_n (i := 0) dX2_scrap_0 rfl rfl ?_
  refine r_iload_n (i := 1) dX2_scrap_1 rfl rfl ?_
  refine r_callV (As := [_]) (mc' := 1) (ms' := 6) dX2_scrap_2 k_X2_271 rfl (by first | assumption | (simp only [kd_sI, kd_sR, kd_sA, kd_sQ, kd_sL, kd_sD, ln_sI, ln_sR, ln_sA, ln_sQ, ln_sL, ln_sD, gI_sR, gI_sA, gI_sQ, gI_sL, gI_sD, gR_sI, gR_sA, gR_sQ, gR_sL, gR_sD, gA_sI, gA_sR, gA_sQ, gA_sL, gA_sD, gQ_sI, gQ_sR, gQ_sA, gQ_sL, gQ_sD, gL_sI, gL_sR, gL_sA, gL_sQ, gL_sD]; assumption) | simp [kd_sI, kd_sR, kd_sA, kd_sQ, kd_sL, kd_sD, ln_sI, ln_sR, ln_sA, ln_sQ, ln_sL, ln_sD, gI_sR, gI_sA, gI_sQ, gI_sL, gI_sD, gR_sI, gR_sA, gR_sQ, gR_sL, gR_sD, gA_sI, gA_sR, gA_sQ, gA_sL, gA_sD, gQ_sI, gQ_sR, gQ_sA, gQ_sL, gQ_sD, gL_sI, gL_sR, gL_sA, gL_sQ, gL_sD, kd_nO, kd_nA, *]) (T := TX2) (N := 8) rfl (by first | assumption | omega) (by first | assumption | omega) (by first | assumption | omega) (Nat.le_of_ble_eq_true rfl) ?_
  refine c_pcable (by omega) p1 p11 h4.1 (by omega) (fun i hi => (h4.2.2.2.1 i hi).1.1.1) (fun hc i hi ec => ?_) (fun hc q => x_out (by decide) (hX1 (by rw [← e9]; exact hc) q))
  rw [e9] at hc
  subst ec
  have kx := (h4.2.2.2.1 i hi).1.1
  have kc := kx.1
  have f26 : gI H 26 (ca i) = g (105 + 21 * i) := kx.2.2.2.2.1.trans (cv_at i _ (by omega))
  have f28 : gI H 28 (ca i) = g (107 + 21 * i) := kx.2.2.2.2.2.1.trans (cv_at i _ (by omega))
  show AW mX2_scrap G d Qr Qx _ _ H 5 _ _
  by_cases hs : g (105 + 21 * i) = nI 2
  · refine r_astore_n (i := 2) dX2_scrap_5 rfl (Nat.le_of_ble_eq_true rfl) (by simp only [lset]; rfl) ?_
    refine r_aload_n (i := 2) dX2_scrap_6 rfl rfl ?_
    refine r_getI dX2_scrap_7 fR_X2_211 (by first | assumption | (simp only [kd_sI, kd_sR, kd_sA, kd_sQ, kd_sL, kd_sD, ln_sI, ln_sR, ln_sA, ln_sQ, ln_sL, ln_sD, gI_sR, gI_sA, gI_sQ, gI_sL, gI_sD, gR_sI, gR_sA, gR_sQ, gR_sL, gR_sD, gA_sI, gA_sR, gA_sQ, gA_sL, gA_sD, gQ_sI, gQ_sR, gQ_sA, gQ_sL, gQ_sD, gL_sI, gL_sR, gL_sA, gL_sQ, gL_sD]; assumption) | simp [kd_sI, kd_sR, kd_sA, kd_sQ, kd_sL, kd_sD, ln_sI, ln_sR, ln_sA, ln_sQ, ln_sL, ln_sD, gI_sR, gI_sA, gI_sQ, gI_sL, gI_sD, gR_sI, gR_sA, gR_sQ, gR_sL, gR_sD, gA_sI, gA_sR, gA_sQ, gA_sL, gA_sD, gQ_sI, gQ_sR, gQ_sA, gQ_sL, gQ_sD, gL_sI, gL_sR, gL_sA, gL_sQ, gL_sD, kd_nO, kd_nA, *]) (by first | assumption | exact gI_sIs | exact gR_sRs | with_reducible rfl | (simp only [kd_sI, kd_sR, kd_sA, kd_sQ, kd_sL, kd_sD, ln_sI, ln_sR, ln_sA, ln_sQ, ln_sL, ln_sD, gI_sR, gI_sA, gI_sQ, gI_sL, gI_sD, gR_sI, gR_sA, gR_sQ, gR_sL, gR_sD, gA_sI, gA_sR, gA_sQ, gA_sL, gA_sD, gQ_sI, gQ_sR, gQ_sA, gQ_sL, gQ_sD, gL_sI, gL_sR, gL_sA, gL_sQ, gL_sD]; first | done | assumption | with_reducible rfl) | rfl) ?_
    refine r_iconst (v := nI 2) dX2_scrap_10 (by decide) ?_
    refine r_icmp_ne (tgt := 18) dX2_scrap_11 (by decide) (fun h11 => ?_) (fun h11 => ?_)
    · exact absurd hs h11
    · refine r_iconst (v := nI 1) dX2_scrap_14 (by decide) ?_
      refine r_goto (tgt := 19) dX2_scrap_15 (by decide) ?_
      refine r_callSN (As := [_]) (mc' := 1) (ms' := 6) dX2_scrap_19 k_X2_131 rfl (by first | assumption | omega) (by first | assumption | omega) (by first | assumption | omega) (Nat.le_of_ble_eq_true rfl) ?_
      refine s_checkState (b := true) (by omega) (fun _ => ?_) (fun h => by cases h)
      show AW mX2_scrap G d Qr Qx _ _ H 22 _ _
      refine r_aload_n (i := 2) dX2_scrap_22 rfl rfl ?_
      refine r_getI dX2_scrap_23 fR_X2_268 (by first | assumption | (simp only [kd_sI, kd_sR, kd_sA, kd_sQ, kd_sL, kd_sD, ln_sI, ln_sR, ln_sA, ln_sQ, ln_sL, ln_sD, gI_sR, gI_sA, gI_sQ, gI_sL, gI_sD, gR_sI, gR_sA, gR_sQ, gR_sL, gR_sD, gA_sI, gA_sR, gA_sQ, gA_sL, gA_sD, gQ_sI, gQ_sR, gQ_sA, gQ_sL, gQ_sD, gL_sI, gL_sR, gL_sA, gL_sQ, gL_sD]; assumption) | simp [kd_sI, kd_sR, kd_sA, kd_sQ, kd_sL, kd_sD, ln_sI, ln_sR, ln_sA, ln_sQ, ln_sL, ln_sD, gI_sR, gI_sA, gI_sQ, gI_sL, gI_sD, gR_sI, gR_sA, gR_sQ, gR_sL, gR_sD, gA_sI, gA_sR, gA_sQ, gA_sL, gA_sD, gQ_sI, gQ_sR, gQ_sA, gQ_sL, gQ_sD, gL_sI, gL_sR, gL_sA, gL_sQ, gL_sD, kd_nO, kd_nA, *]) (by first | assumption | exact gI_sIs | exact gR_sRs | with_reducible rfl | (simp only [kd_sI, kd_sR, kd_sA, kd_sQ, kd_sL, kd_sD, ln_sI, ln_sR, ln_sA, ln_sQ, ln_sL, ln_sD, gI_sR, gI_sA, gI_sQ, gI_sL, gI_sD, gR_sI, gR_sA, gR_sQ, gR_sL, gR_sD, gA_sI, gA_sR, gA_sQ, gA_sL, gA_sD, gQ_sI, gQ_sR, gQ_sA, gQ_sL, gQ_sD, gL_sI, gL_sR, gL_sA, gL_sQ, gL_sD]; first | done | assumption | with_reducible rfl) | rfl) ?_
      refine r_istore_n (i := 3) dX2_scrap_26 rfl (Nat.le_of_ble_eq_true rfl) (by simp only [lset]; rfl) ?_
      refine r_aload_n (i := 0) dX2_scrap_27 rfl rfl ?_
      refine r_dup dX2_scrap_28 rfl ?_
      refine r_getI dX2_scrap_29 fR_X2_81 (by first | assumption | (simp only [kd_sI, kd_sR, kd_sA, kd_sQ, kd_sL, kd_sD, ln_sI, ln_sR, ln_sA, ln_sQ, ln_sL, ln_sD, gI_sR, gI_sA, gI_sQ, gI_sL, gI_sD, gR_sI, gR_sA, gR_sQ, gR_sL, gR_sD, gA_sI, gA_sR, gA_sQ, gA_sL, gA_sD, gQ_sI, gQ_sR, gQ_sA, gQ_sL, gQ_sD, gL_sI, gL_sR, gL_sA, gL_sQ, gL_sD]; assumption) | simp [kd_sI, kd_sR, kd_sA, kd_sQ, kd_sL, kd_sD, ln_sI, ln_sR, ln_sA, ln_sQ, ln_sL, ln_sD, gI_sR, gI_sA, gI_sQ, gI_sL, gI_sD, gR_sI, gR_sA, gR_sQ, gR_sL, gR_sD, gA_sI, gA_sR, gA_sQ, gA_sL, gA_sD, gQ_sI, gQ_sR, gQ_sA, gQ_sL, gQ_sD, gL_sI, gL_sR, gL_sA, gL_sQ, gL_sD, kd_nO, kd_nA, *]) (by first | assumption | exact gI_sIs | exact gR_sRs | with_reducible rfl | (simp only [kd_sI, kd_sR, kd_sA, kd_sQ, kd_sL, kd_sD, ln_sI, ln_sR, ln_sA, ln_sQ, ln_sL, ln_sD, gI_sR, gI_sA, gI_sQ, gI_sL, gI_sD, gR_sI, gR_sA, gR_sQ, gR_sL, gR_sD, gA_sI, gA_sR, gA_sQ, gA_sL, gA_sD, gQ_sI, gQ_sR, gQ_sA, gQ_sL, gQ_sD, gL_sI, gL_sR, gL_sA, gL_sQ, gL_sD]; first | done | assumption | with_reducible rfl) | rfl) ?_
      refine r_iload_n (i := 3) dX2_scrap_32 rfl rfl ?_
      refine r_iadd dX2_scrap_33 ?_
      try simp only [nI_add]
      refine r_putI dX2_scrap_34 fG_X2_81 (fun _ => by first | rfl | contradiction) (by first | assumption | (simp only [kd_sI, kd_sR, kd_sA, kd_sQ, kd_sL, kd_sD, ln_sI, ln_sR, ln_sA, ln_sQ, ln_sL, ln_sD, gI_sR, gI_sA, gI_sQ, gI_sL, gI_sD, gR_sI, gR_sA, gR_sQ, gR_sL, gR_sD, gA_sI, gA_sR, gA_sQ, gA_sL, gA_sD, gQ_sI, gQ_sR, gQ_sA, gQ_sL, gQ_sD, gL_sI, gL_sR, gL_sA, gL_sQ, gL_sD]; assumption) | simp [kd_sI, kd_sR, kd_sA, kd_sQ, kd_sL, kd_sD, ln_sI, ln_sR, ln_sA, ln_sQ, ln_sL, ln_sD, gI_sR, gI_sA, gI_sQ, gI_sL, gI_sD, gR_sI, gR_sA, gR_sQ, gR_sL, gR_sD, gA_sI, gA_sR, gA_sQ, gA_sL, gA_sD, gQ_sI, gQ_sR, gQ_sA, gQ_sL, gQ_sD, gL_sI, gL_sR, gL_sA, gL_sQ, gL_sD, kd_nO, kd_nA, *]) (by first | rfl | assumption) (by first | rfl | assumption) ?_
      refine AW.name (fun H1 hH1 => ?_)
      refine AW.st0 (fun z1 => ?_)
      have K1 : Ks (fun b => b = p) H H1 := by rw [hH1]; exact (Ks.rf (S := fun b => b = p)).sI (fun _ => rfl)
      have npc : ¬ p = ca i := fun e => by rw [e, kc] at p1; omega
      obtain ⟨s1, f1⟩ := h19.set K1 z1 (by rw [hH1]; exact gR_sI) (sp' := upd g 2 (g 2 + g (107 + 21 * i)) 0) (ta' := upd g 2 (g 2 + g (107 + 21 * i)) 1) (wa' := upd g 2 (g 2 + g (107 + 21 * i)) 2) (by rw [hH1, gI_sIn (by decide), upd_n (by decide)]; exact p13) (by rw [hH1, gI_sIn (by decide), upd_n (by decide)]; exact p14) (by rw [hH1, gI_sIs, upd_s])
      obtain ⟨k2, k3, k4, k5⟩ := parts_small (k := 2) (v := g 2 + g (107 + 21 * i)) hI (by decide) (h2.ks s1 (fun b _ e => ⟨by omega, by omega, fun h => by omega⟩)) (h3.ks s1 (fun b _ e => by omega)) (h4.ks s1 (fun b _ e => ⟨by omega, by omega⟩)) (h5.ks s1 (fun b _ e => by omega))
      have hI1 := IG_waste (v := g 2 + g (107 + 21 * i)) hI
      obtain ⟨a1, a2, a3, a4, a5, a6⟩ := small_v (k := 2) (v := g 2 + g (107 + 21 * i)) hB (by decide)
      have kp1 := f1.1.1
      have kc1 : kd H1 (ca i) = 4 := K1.kk kc (by decide)
      refine r_aload_n (i := 0) dX2_scrap_37 rfl rfl ?_
      refine r_aload_n (i := 2) dX2_scrap_38 rfl rfl ?_
      refine r_callV (As := [_]) (mc' := 1) (ms' := 4) dX2_scrap_39 k_X2_275 rfl (by first | assumption | (simp only [kd_sI, kd_sR, kd_sA, kd_sQ, kd_sL, kd_sD, ln_sI, ln_sR, ln_sA, ln_sQ, ln_sL, ln_sD, gI_sR, gI_sA, gI_sQ, gI_sL, gI_sD, gR_sI, gR_sA, gR_sQ, gR_sL, gR_sD, gA_sI, gA_sR, gA_sQ, gA_sL, gA_sD, gQ_sI, gQ_sR, gQ_sA, gQ_sL, gQ_sD, gL_sI, gL_sR, gL_sA, gL_sQ, gL_sD]; assumption) | simp [kd_sI, kd_sR, kd_sA, kd_sQ, kd_sL, kd_sD, ln_sI, ln_sR, ln_sA, ln_sQ, ln_sL, ln_sD, gI_sR, gI_sA, gI_sQ, gI_sL, gI_sD, gR_sI, gR_sA, gR_sQ, gR_sL, gR_sD, gA_sI, gA_sR, gA_sQ, gA_sL, gA_sD, gQ_sI, gQ_sR, gQ_sA, gQ_sL, gQ_sD, gL_sI, gL_sR, gL_sA, gL_sQ, gL_sD, kd_nO, kd_nA, *]) (T := TX2) (N := 8) rfl (by first | assumption | omega) (by first | assumption | omega) (by first | assumption | omega) (Nat.le_of_ble_eq_true rfl) ?_
      refine pl_leave (by omega) f1 t0 k2 k3 k4 z1 hI1 (by rw [a4]; exact hi) (fun H2 O2 s2 _ T2 C2 => ?_)
      show AW mX2_scrap G d Qr Qx _ _ H2 42 _ _
      refine r_istore dX2_scrap_42 (Nat.le_of_ble_eq_true rfl) (by simp only [lset]; rfl) ?_
      refine r_iload_n (i := 3) dX2_scrap_44 rfl rfl ?_
      refine r_ireturn dX2_scrap_45 rfl (by first | rfl | assumption | exact vp_nar_int _ | exact pk_nc _) ?_
      exact hQ i rfl hi hc hs H2 O2 ((s1.mono (fun b _ e => by omega)).tr2 s2 (fun b _ e => by omega)) (leave_isP t0 hI1 (by rw [a4]; exact hi) f1 k2 k5 s2 T2 C2)
  · refine r_astore_n (i := 2) dX2_scrap_5 rfl (Nat.le_of_ble_eq_true rfl) (by simp only [lset]; rfl) ?_
    refine r_aload_n (i := 2) dX2_scrap_6 rfl rfl ?_
    refine r_getI dX2_scrap_7 fR_X2_211 (by first | assumption | (simp only [kd_sI, kd_sR, kd_sA, kd_sQ, kd_sL, kd_sD, ln_sI, ln_sR, ln_sA, ln_sQ, ln_sL, ln_sD, gI_sR, gI_sA, gI_sQ, gI_sL, gI_sD, gR_sI, gR_sA, gR_sQ, gR_sL, gR_sD, gA_sI, gA_sR, gA_sQ, gA_sL, gA_sD, gQ_sI, gQ_sR, gQ_sA, gQ_sL, gQ_sD, gL_sI, gL_sR, gL_sA, gL_sQ, gL_sD]; assumption) | simp [kd_sI, kd_sR, kd_sA, kd_sQ, kd_sL, kd_sD, ln_sI, ln_sR, ln_sA, ln_sQ, ln_sL, ln_sD, gI_sR, gI_sA, gI_sQ, gI_sL, gI_sD, gR_sI, gR_sA, gR_sQ, gR_sL, gR_sD, gA_sI, gA_sR, gA_sQ, gA_sL, gA_sD, gQ_sI, gQ_sR, gQ_sA, gQ_sL, gQ_sD, gL_sI, gL_sR, gL_sA, gL_sQ, gL_sD, kd_nO, kd_nA, *]) (by first | assumption | exact gI_sIs | exact gR_sRs | with_reducible rfl | (simp only [kd_sI, kd_sR, kd_sA, kd_sQ, kd_sL, kd_sD, ln_sI, ln_sR, ln_sA, ln_sQ, ln_sL, ln_sD, gI_sR, gI_sA, gI_sQ, gI_sL, gI_sD, gR_sI, gR_sA, gR_sQ, gR_sL, gR_sD, gA_sI, gA_sR, gA_sQ, gA_sL, gA_sD, gQ_sI, gQ_sR, gQ_sA, gQ_sL, gQ_sD, gL_sI, gL_sR, gL_sA, gL_sQ, gL_sD]; first | done | assumption | with_reducible rfl) | rfl) ?_
    refine r_iconst (v := nI 2) dX2_scrap_10 (by decide) ?_
    refine r_icmp_ne (tgt := 18) dX2_scrap_11 (by decide) (fun h11 => ?_) (fun h11 => ?_)
    · refine r_iconst (v := nI 0) dX2_scrap_18 (by decide) ?_
      refine r_callSN (As := [_]) (mc' := 1) (ms' := 6) dX2_scrap_19 k_X2_131 rfl (by first | assumption | omega) (by first | assumption | omega) (by first | assumption | omega) (Nat.le_of_ble_eq_true rfl) ?_
      refine s_checkState (b := false) (by omega) (fun h => by cases h) (fun _ q => x_out (by decide) (hX2 i rfl hi hc hs q))
    · exact absurd h11 hs
end Free
