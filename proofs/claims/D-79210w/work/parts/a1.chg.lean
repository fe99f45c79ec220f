set_option maxRecDepth 100000
/-! A CABLE IS LAID; IT LEAVES -/
theorem Ks.kds {K : Nat → Prop} {T : Nat → Prop} {H H1 H2 : AH} (h : Ks (fun b => K (kd H b)) H H1) (k : Ks T H1 H2) (hT : ∀ b, kd H1 b ≠ 0 → T b → K (kd H1 b)) : Ks (fun b => K (kd H b)) H H2 := h.tr2 k (fun b hb q => by rw [← (h b hb).1]; exact hT b (h.nz hb) q)
/-- the kinds that a change of trays and cables leaves -/
def KLay (k : Nat) : Prop := k ≠ 11 ∧ k ≠ 1050 ∧ k ≠ 17 ∧ k ≠ 2
theorem tk1 {r : List Nat} {i : Nat} (hi : i < r.length) : r.take (i + 1) = r.take i ++ [r.getD i 0] := by
  rw [List.take_succ]
  simp [List.getD, hi]
theorem tk2 {r : List Nat} {i : Nat} (hnd : r.Nodup) (hi : i < r.length) : r.getD i 0 ∉ r.take i := by
  have h : (r.take (i + 1)).Nodup := hnd.sublist (List.take_sublist _ _)
  rw [tk1 hi, List.nodup_append] at h
  intro q
  exact h.2.2 _ q _ (List.mem_singleton.mpr rfl) rfl
def tvL (g g' : Nat → Int32) (r : List Nat) (i t : Nat) : TV := if t ∈ r.take i then tvOf g' t else tvOf g t
theorem tvL_s {g g' : Nat → Int32} {r : List Nat} {i t : Nat} (hi : i < r.length) : tvL g g' r (i + 1) t = upA (tvL g g' r i) (r.getD i 0) (tvOf g' (r.getD i 0)) t := by
  unfold tvL upA
  rw [tk1 hi]
  by_cases e : t = r.getD i 0
  · rw [if_pos e, if_pos (by rw [e]; exact List.mem_append_right _ (List.mem_singleton.mpr rfl)), e]
  · rw [if_neg e]
    dsimp only
    by_cases h : t ∈ r.take i
    · rw [if_pos h, if_pos (List.mem_append_left _ h)]
    · rw [if_neg h, if_neg (fun q => (List.mem_append.mp q).elim h (fun q => e (List.mem_singleton.mp q)))]
def vLy (g g' : Nat → Int32) (c i k : Nat) : Int32 := if k = 4 then nI i else if k = 3 then nI 0 else cvOf g' c k
section Chg
variable {G : Gl} {d : Nat} {Qr : Option AV → AH → Prop} {Qx : String → Nat → AH → Prop} {H : AH} {O : Nat → Nat} {p t : Nat} {A : PA} {g : Nat → Int32} {eR eC : Nat} {tr tc tf tu ca rl re : Nat → Nat} {st : Nat → Nat → Nat}
theorem CaX.to2 {l L n : Nat} {cv cv' : Nat → Nat → Int32} {e : Nat} (h : CaX G H O l L n cv e ca rl re st) (hv : ∀ c k, c < n → k < 7 → cv' c k = cv c k) (hw : ∀ c i, c < n → i < (cv c 4).toNatClampNeg → cv' c (7 + i) = cv c (7 + i) ∧ cv' c (14 + i) = cv c (14 + i)) : CaX G H O l L n cv' e ca rl re st := by
  obtain ⟨a1, a2, a3, a4, a5, a6⟩ := h
  refine ⟨a1, a2, a3, fun c hc => ?_, a5, a6⟩
  obtain ⟨b1, b2, b3, b4⟩ := a4 c hc
  rw [hv c 4 hc (by decide)]
  exact ⟨b1.to (fun k hk => (hv c k hc hk).symm) (fun i hi => ⟨(hw c i hc hi).1.symm, (hw c i hc hi).2.symm⟩), b2, b3, b4⟩
theorem TrA_kd {tv : Nat → TV} {l L n e i : Nat} (h : TrX G H O l L n tv e tr tc tf tu) (hi : i < n) {b : Nat} (q : TrA (tc i) (tf i) (tu i) b) : kd H b = 1020 ∨ kd H b = 1021 ∨ kd H b = 1022 := by
  obtain ⟨c1, c2, c3, c4, c5, c6, c7, c8, c9, c10, c11, -⟩ := (h.2.2.2.1 i hi).1
  rcases q with q | q | q
  · rw [q]; exact Or.inl c9
  · rw [q]; exact Or.inr (Or.inl c10)
  · rw [q]; exact Or.inr (Or.inr c11)
theorem pl_lay {c y S ba a : Nat} {r : List Nat} (hd : 8 ≤ d) (hP : PlF H O (8 * t + 1) p A.ty A.M A.tr A.ca A.dr (g 0) (g 1) (g 2)) (ht0 : 1 ≤ t) (hT : TrX G H O (8 * t + 3) A.tr (nat g 40) (tvOf g) eR tr tc tf tu) (hC : CaX G H O (8 * t + 4) A.ca (nat g 101) (cvOf g) eC ca rl re st) (z0 : kd H (gSt G 1) = 0) (hI : IG g) (hI' : IG (routeG g c r)) (hc : c < nat g 101) (hy : nat g (102 + 21 * c) = y) (ka : kd H a = 17 ∧ gI H 65 a = g (8 + 6 * y) ∧ gI H 66 a = g (9 + 6 * y)) (h0 : nat g (106 + 21 * c) = 0) (hs0 : g (105 + 21 * c) = 0) (hr7 : r.length ≤ 7) (hrt : ∀ x, x ∈ r → x < nat g 40 ∧ (q_place g x y).isSome = true) (hnd : r.Nodup) (hS : kd H S = 11 ∧ gR H 50 S = some ba ∧ gI H 51 S = nI r.length ∧ kd H ba = 1050 ∧ ln H ba = 12 ∧ ∀ i, i < r.length → gA H 1050 ba i = nI (r.getD i 0)) (hQ : ∀ H' O', Stq G (fun b => O b = 8 * t + 3 ∨ O b = 8 * t + 4) H O H' O' → Ks (fun b => KLay (kd H b)) H H' → TrX G H' O' (8 * t + 3) A.tr (nat g 40) (tvOf (routeG g c r)) eR tr tc tf tu → (∃ re' st', CaX G H' O' (8 * t + 4) A.ca (nat g 101) (cvOf (routeG g c r)) eC ca rl re' st') → Qr none H') : AMet G d 14 168 yX2_lay wX2_lay H [vR (some p), vR (some (ca c)), vR (some a), vR (some S)] Qr Qx := by
  have hB := hI.1
  have hYY := hI.2.2.2.2.2.2.2.1
  have h40 := hB.2.1.2
  have h101 := hB.2.2.1.2
  obtain ⟨out, v5, v6, n6, v9, v107, v108⟩ := routeG_v (r := r) hB hc hr7
  obtain ⟨s1, s2, s3, s4, s5, s6⟩ := hS
  obtain ⟨ka1, ka2, ka3⟩ := ka
  obtain ⟨m, hm⟩ : ∃ m, r.length = m := ⟨_, rfl⟩
  refine AMet.of (M := mX2_lay) (maxL := 8) (by first | rfl | decide +kernel) rfl (Nat.le_of_ble_eq_true rfl) ?_
  show AW mX2_lay _ _ _ _ _ _ _ 0 [some (vR (some p)), some (vR (some (ca c))), some (vR (some a)), some (vR (some S)), none, none, none, none] []
  refine r_iconst (v := nI 0) dX2_lay_0 (by decide) ?_
  refine r_istore dX2_lay_1 (Nat.le_of_ble_eq_true rfl) (by simp only [lset]; rfl) ?_
  have loop : ∀ (k i rc rs : Nat) (H2 : AH) (O2 : Nat → Nat) (l5 l6 l7 : Option AV) (re2 : Nat → Nat) (st2 : Nat → Nat → Nat), i + k = m → 2 * k ≤ rc → 24 * k ≤ rs → Stq G (fun b => O b = 8 * t + 3 ∨ O b = 8 * t + 4) H O H2 O2 → Ks (fun b => KLay (kd H b)) H H2 → TrX G H2 O2 (8 * t + 3) A.tr (nat g 40) (tvL g (routeG g c r) r i) eR tr tc tf tu → CaX G H2 O2 (8 * t + 4) A.ca (nat g 101) (upA (cvOf g) c (vLy g (routeG g c r) c i)) eC ca rl re2 st2 → AW mX2_lay G d Qr Qx rc rs H2 3 [some (vR (some p)), some (vR (some (ca c))), some (vR (some a)), some (vR (some S)), some (vI (nI i)), l5, l6, l7] [] := by
    intro k
    induction k with
    | zero =>
      intro i rc rs H2 O2 l5 l6 l7 re2 st2 hi hrc hrs hs hK hT2 hC2
      have z2 := hs.2.2
      have eS := hK.at (a := S) (by rw [s1]; decide) (fun q => q.1 s1)
      have kS : kd H2 S = 11 := by rw [at_kd eS]; exact s1
      have f51 : gI H2 51 S = nI m := by rw [at_gI eS, ← hm]; exact s3
      have hCo := (hC2.2.2.2.1 c hc).1
      rw [upA_n] at hCo
      have kc : kd H2 (ca c) = 4 := hCo.1.1
      have him : i = m := by omega
      refine r_iload dX2_lay_3 rfl ?_
      refine r_aload_n (i := 3) dX2_lay_5 rfl rfl ?_
      refine r_getI dX2_lay_6 fR_X2_214 (by first | assumption | (simp only [kd_sI, kd_sR, kd_sA, kd_sQ, kd_sL, kd_sD, ln_sI, ln_sR, ln_sA, ln_sQ, ln_sL, ln_sD, gI_sR, gI_sA, gI_sQ, gI_sL, gI_sD, gR_sI, gR_sA, gR_sQ, gR_sL, gR_sD, gA_sI, gA_sR, gA_sQ, gA_sL, gA_sD, gQ_sI, gQ_sR, gQ_sA, gQ_sL, gQ_sD, gL_sI, gL_sR, gL_sA, gL_sQ, gL_sD]; assumption) | simp [kd_sI, kd_sR, kd_sA, kd_sQ, kd_sL, kd_sD, ln_sI, ln_sR, ln_sA, ln_sQ, ln_sL, ln_sD, gI_sR, gI_sA, gI_sQ, gI_sL, gI_sD, gR_sI, gR_sA, gR_sQ, gR_sL, gR_sD, gA_sI, gA_sR, gA_sQ, gA_sL, gA_sD, gQ_sI, gQ_sR, gQ_sA, gQ_sL, gQ_sD, gL_sI, gL_sR, gL_sA, gL_sQ, gL_sD, kd_nO, kd_nA, *]) (by first | assumption | exact gI_sIs | exact gR_sRs | with_reducible rfl | (simp only [kd_sI, kd_sR, kd_sA, kd_sQ, kd_sL, kd_sD, ln_sI, ln_sR, ln_sA, ln_sQ, ln_sL, ln_sD, gI_sR, gI_sA, gI_sQ, gI_sL, gI_sD, gR_sI, gR_sA, gR_sQ, gR_sL, gR_sD, gA_sI, gA_sR, gA_sQ, gA_sL, gA_sD, gQ_sI, gQ_sR, gQ_sA, gQ_sL, gQ_sD, gL_sI, gL_sR, gL_sA, gL_sQ, gL_sD]; first | done | assumption | with_reducible rfl) | rfl) ?_
      refine r_icmp_ge (tgt := 82) dX2_lay_9 (by decide) (fun h9 => ?_) (fun h9 => ?_)
      · refine r_aload_n (i := 1) dX2_lay_82 rfl rfl ?_
        refine r_iconst (v := nI 1) dX2_lay_83 (by decide) ?_
        refine r_putI dX2_lay_84 fG_X2_211 (fun _ => by first | rfl | contradiction) (by first | assumption | (simp only [kd_sI, kd_sR, kd_sA, kd_sQ, kd_sL, kd_sD, ln_sI, ln_sR, ln_sA, ln_sQ, ln_sL, ln_sD, gI_sR, gI_sA, gI_sQ, gI_sL, gI_sD, gR_sI, gR_sA, gR_sQ, gR_sL, gR_sD, gA_sI, gA_sR, gA_sQ, gA_sL, gA_sD, gQ_sI, gQ_sR, gQ_sA, gQ_sL, gQ_sD, gL_sI, gL_sR, gL_sA, gL_sQ, gL_sD]; assumption) | simp [kd_sI, kd_sR, kd_sA, kd_sQ, kd_sL, kd_sD, ln_sI, ln_sR, ln_sA, ln_sQ, ln_sL, ln_sD, gI_sR, gI_sA, gI_sQ, gI_sL, gI_sD, gR_sI, gR_sA, gR_sQ, gR_sL, gR_sD, gA_sI, gA_sR, gA_sQ, gA_sL, gA_sD, gQ_sI, gQ_sR, gQ_sA, gQ_sL, gQ_sD, gL_sI, gL_sR, gL_sA, gL_sQ, gL_sD, kd_nO, kd_nA, *]) (by first | rfl | assumption) (by first | rfl | assumption) ?_
        refine AW.name (fun H3 hH3 => ?_)
        have hK3 : Ks (fun b => b = ca c) H2 H3 := by rw [hH3]; exact (Ks.rf (S := fun b => b = ca c)).sI (fun _ => rfl)
        refine AW.st0 (fun z3 => ?_)
        have e4 : (vLy g (routeG g c r) c i 4).toNatClampNeg = r.length := by
          unfold vLy
          rw [if_pos rfl, him, hm]
          exact nI_clamp (by omega)
        rw [e4] at hCo
        have nrl : ¬ rl c = ca c := fun e => by have := hCo.2.2.2.1.1; rw [e, kc] at this; omega
        have nre : kd H2 (re2 c) = 4096 → ¬ re2 c = ca c := fun k e => by rw [e, kc] at k; omega
        have vE : ∀ k, k ≠ 3 → vLy g (routeG g c r) c i k = cvOf (routeG g c r) c k := by
          intro k hk3
          unfold vLy
          by_cases hk4 : k = 4
          · rw [if_pos hk4, hk4, cv_at c (106 + 21 * c) (by omega), v6, him, hm]
          · rw [if_neg hk4, if_neg hk3]
        have hT3 : CaO G H3 (ca c) (rl c) (re2 c) (st2 c) r.length (cvOf (routeG g c r) c) := by
          obtain ⟨⟨a1, a2, a3, a4, a5, a6, a7, a8⟩, a9, a10, a11, a12⟩ := hCo
          refine ⟨⟨hK3.kk a1 (by decide), ?_, ?_, ?_, ?_, ?_, ?_, ?_⟩, ?_, a10, a11.ks hK3 nrl nre, fun j hj => ?_⟩
          · rw [hH3, gI_sIn (by decide), ← vE 0 (by decide)]; exact a2
          · rw [hH3, gI_sIn (by decide), ← vE 1 (by decide)]; exact a3
          · rw [hH3, gI_sIn (by decide), ← vE 2 (by decide)]; exact a4
          · rw [hH3, gI_sIs, cv_at c (105 + 21 * c) (by omega), v5]
          · rw [hH3, gI_sIn (by decide), ← vE 5 (by decide)]; exact a6
          · rw [hH3, gI_sIn (by decide), ← vE 6 (by decide)]; exact a7
          · rw [hH3, gR_sI]; exact a8
          · rw [← vE 4 (by decide)]; exact a9
          · obtain ⟨b1, b2, b3⟩ := a12 j hj
            have e := hK3.at (a := st2 c j) (by rw [b1]; decide) (fun e => by rw [e, kc] at b1; omega)
            rw [at_kd e, at_gI e, at_gI e, ← vE (7 + j) (by omega), ← vE (14 + j) (by omega)]
            exact ⟨b1, b2, b3⟩
        have hst := (hC2.2.2.2.1 c hc).2.2.2
        rw [upA_n, e4] at hst
        obtain ⟨q1, q2⟩ := hC2.set (v := cvOf (routeG g c r) c) (k := r.length) z2 hc (by omega) (hK3.mono (fun b _ e => Or.inl e)) z3 (by rw [cv_at c (106 + 21 * c) (by omega)]; exact n6) hT3 (Or.inl rfl) (fun j hj => ⟨by rw [(hCo.2.2.2.2 j hj).1]; decide, hst j hj⟩)
        have q2' := q2.to (cv' := cvOf (routeG g c r)) (fun c' k hc' hk => by
          by_cases e : c' = c
          · rw [e, upA_n]
          · rw [upA_i e, upA_i e]
            unfold cvOf
            exact out _ (by omega))
        have q3 := hT2.ks q1 (fun b _ e => by omega)
        have q3' := q3.to (tv' := tvOf (routeG g c r)) (fun x hx => by
          unfold tvL
          rw [him, ← hm, List.take_length]
          by_cases e : x ∈ r
          · rw [if_pos e]
          · rw [if_neg e]
            exact tv_route_out hB hc hr7 (fun x hx => by have := (hrt x hx).1; omega) h0 hx e)
        refine r_return dX2_lay_87 rfl ?_
        refine hQ H3 _ (hs.tr2 q1 (fun b hb e => by rw [hs.2.1 b hb] at e; exact Or.inr e)) (hK.kds hK3 (fun b _ e => by rw [e, kc]; exact ⟨by decide, by decide, by decide, by decide⟩)) q3' ⟨_, _, q2'⟩
      · exact absurd (show nI m ≤ nI i by rw [him]; exact Int32.le_refl _) h9
    | succ k ih =>
      intro i rc rs H2 O2 l5 l6 l7 re2 st2 hi hrc hrs hs hK hT2 hC2
      have z2 := hs.2.2
      have him : i < r.length := by omega
      have eS := hK.at (a := S) (by rw [s1]; decide) (fun q => q.1 s1)
      have kS : kd H2 S = 11 := by rw [at_kd eS]; exact s1
      have f50 : gR H2 50 S = some ba := by rw [at_gR eS]; exact s2
      have f51 : gI H2 51 S = nI m := by rw [at_gI eS, ← hm]; exact s3
      have eB := hK.at (a := ba) (by rw [s4]; decide) (fun q => q.2.1 s4)
      have kB : kd H2 ba = 1050 := by rw [at_kd eB]; exact s4
      have lB : ln H2 ba = 12 := by rw [at_ln eB]; exact s5
      obtain ⟨u, hu⟩ : ∃ u, r.getD i 0 = u := ⟨_, rfl⟩
      have gB : gA H2 1050 ba i = nI u := by rw [at_gA eB, s6 i him, hu]
      have humem := getD_mem him
      rw [hu] at humem
      obtain ⟨hut, hus⟩ := hrt u humem
      obtain ⟨k0, hk0⟩ := Option.isSome_iff_exists.mp hus
      have kL := hT2.1.1
      obtain ⟨⟨p1, p8, p9, p10, p11, p12, p13, p14, p15⟩, pO⟩ := hP.ks hs (fun b _ e => by omega)
      have eA := hK.at (a := a) (by rw [ka1]; decide) (fun q => q.2.2.1 ka1)
      have kA : kd H2 a = 17 := by rw [at_kd eA]; exact ka1
      have f65 : gI H2 65 a = g (8 + 6 * y) := by rw [at_gI eA]; exact ka2
      have f66 : gI H2 66 a = g (9 + 6 * y) := by rw [at_gI eA]; exact ka3
      have hTu := (hT2.2.2.2.1 u hut).1
      have etv : tvL g (routeG g c r) r i u = tvOf g u := by
        unfold tvL
        rw [if_neg (by rw [← hu]; exact tk2 hnd him)]
      rw [etv] at hTu
      have kTu : kd H2 (tr u) = 3 := hTu.1
      refine r_iload dX2_lay_3 rfl ?_
      refine r_aload_n (i := 3) dX2_lay_5 rfl rfl ?_
      refine r_getI dX2_lay_6 fR_X2_214 (by first | assumption | (simp only [kd_sI, kd_sR, kd_sA, kd_sQ, kd_sL, kd_sD, ln_sI, ln_sR, ln_sA, ln_sQ, ln_sL, ln_sD, gI_sR, gI_sA, gI_sQ, gI_sL, gI_sD, gR_sI, gR_sA, gR_sQ, gR_sL, gR_sD, gA_sI, gA_sR, gA_sQ, gA_sL, gA_sD, gQ_sI, gQ_sR, gQ_sA, gQ_sL, gQ_sD, gL_sI, gL_sR, gL_sA, gL_sQ, gL_sD]; assumption) | simp [kd_sI, kd_sR, kd_sA, kd_sQ, kd_sL, kd_sD, ln_sI, ln_sR, ln_sA, ln_sQ, ln_sL, ln_sD, gI_sR, gI_sA, gI_sQ, gI_sL, gI_sD, gR_sI, gR_sA, gR_sQ, gR_sL, gR_sD, gA_sI, gA_sR, gA_sQ, gA_sL, gA_sD, gQ_sI, gQ_sR, gQ_sA, gQ_sL, gQ_sD, gL_sI, gL_sR, gL_sA, gL_sQ, gL_sD, kd_nO, kd_nA, *]) (by first | assumption | exact gI_sIs | exact gR_sRs | with_reducible rfl | (simp only [kd_sI, kd_sR, kd_sA, kd_sQ, kd_sL, kd_sD, ln_sI, ln_sR, ln_sA, ln_sQ, ln_sL, ln_sD, gI_sR, gI_sA, gI_sQ, gI_sL, gI_sD, gR_sI, gR_sA, gR_sQ, gR_sL, gR_sD, gA_sI, gA_sR, gA_sQ, gA_sL, gA_sD, gQ_sI, gQ_sR, gQ_sA, gQ_sL, gQ_sD, gL_sI, gL_sR, gL_sA, gL_sQ, gL_sD]; first | done | assumption | with_reducible rfl) | rfl) ?_
      refine r_icmp_ge (tgt := 82) dX2_lay_9 (by decide) (fun h9 => ?_) (fun h9 => ?_)
      · exact absurd h9 (nI_ge (by omega) (by omega))
      · refine r_aload_n (i := 0) dX2_lay_12 rfl rfl ?_
        refine r_getR dX2_lay_13 fR_X2_25 (by first | assumption | (simp only [kd_sI, kd_sR, kd_sA, kd_sQ, kd_sL, kd_sD, ln_sI, ln_sR, ln_sA, ln_sQ, ln_sL, ln_sD, gI_sR, gI_sA, gI_sQ, gI_sL, gI_sD, gR_sI, gR_sA, gR_sQ, gR_sL, gR_sD, gA_sI, gA_sR, gA_sQ, gA_sL, gA_sD, gQ_sI, gQ_sR, gQ_sA, gQ_sL, gQ_sD, gL_sI, gL_sR, gL_sA, gL_sQ, gL_sD]; assumption) | simp [kd_sI, kd_sR, kd_sA, kd_sQ, kd_sL, kd_sD, ln_sI, ln_sR, ln_sA, ln_sQ, ln_sL, ln_sD, gI_sR, gI_sA, gI_sQ, gI_sL, gI_sD, gR_sI, gR_sA, gR_sQ, gR_sL, gR_sD, gA_sI, gA_sR, gA_sQ, gA_sL, gA_sD, gQ_sI, gQ_sR, gQ_sA, gQ_sL, gQ_sD, gL_sI, gL_sR, gL_sA, gL_sQ, gL_sD, kd_nO, kd_nA, *]) (by first | assumption | exact gI_sIs | exact gR_sRs | with_reducible rfl | (simp only [kd_sI, kd_sR, kd_sA, kd_sQ, kd_sL, kd_sD, ln_sI, ln_sR, ln_sA, ln_sQ, ln_sL, ln_sD, gI_sR, gI_sA, gI_sQ, gI_sL, gI_sD, gR_sI, gR_sA, gR_sQ, gR_sL, gR_sD, gA_sI, gA_sR, gA_sQ, gA_sL, gA_sD, gQ_sI, gQ_sR, gQ_sA, gQ_sL, gQ_sD, gL_sI, gL_sR, gL_sA, gL_sQ, gL_sD]; first | done | assumption | with_reducible rfl) | rfl) ?_
        refine r_aload_n (i := 3) dX2_lay_16 rfl rfl ?_
        refine r_getR dX2_lay_17 fR_X2_217 (by first | assumption | (simp only [kd_sI, kd_sR, kd_sA, kd_sQ, kd_sL, kd_sD, ln_sI, ln_sR, ln_sA, ln_sQ, ln_sL, ln_sD, gI_sR, gI_sA, gI_sQ, gI_sL, gI_sD, gR_sI, gR_sA, gR_sQ, gR_sL, gR_sD, gA_sI, gA_sR, gA_sQ, gA_sL, gA_sD, gQ_sI, gQ_sR, gQ_sA, gQ_sL, gQ_sD, gL_sI, gL_sR, gL_sA, gL_sQ, gL_sD]; assumption) | simp [kd_sI, kd_sR, kd_sA, kd_sQ, kd_sL, kd_sD, ln_sI, ln_sR, ln_sA, ln_sQ, ln_sL, ln_sD, gI_sR, gI_sA, gI_sQ, gI_sL, gI_sD, gR_sI, gR_sA, gR_sQ, gR_sL, gR_sD, gA_sI, gA_sR, gA_sQ, gA_sL, gA_sD, gQ_sI, gQ_sR, gQ_sA, gQ_sL, gQ_sD, gL_sI, gL_sR, gL_sA, gL_sQ, gL_sD, kd_nO, kd_nA, *]) (by first | assumption | exact gI_sIs | exact gR_sRs | with_reducible rfl | (simp only [kd_sI, kd_sR, kd_sA, kd_sQ, kd_sL, kd_sD, ln_sI, ln_sR, ln_sA, ln_sQ, ln_sL, ln_sD, gI_sR, gI_sA, gI_sQ, gI_sL, gI_sD, gR_sI, gR_sA, gR_sQ, gR_sL, gR_sD, gA_sI, gA_sR, gA_sQ, gA_sL, gA_sD, gQ_sI, gQ_sR, gQ_sA, gQ_sL, gQ_sD, gL_sI, gL_sR, gL_sA, gL_sQ, gL_sD]; first | done | assumption | with_reducible rfl) | rfl) ?_
        refine r_iload dX2_lay_20 rfl ?_
        refine r_iald dX2_lay_22 (by first | assumption | (simp only [kd_sI, kd_sR, kd_sA, kd_sQ, kd_sL, kd_sD, ln_sI, ln_sR, ln_sA, ln_sQ, ln_sL, ln_sD, gI_sR, gI_sA, gI_sQ, gI_sL, gI_sD, gR_sI, gR_sA, gR_sQ, gR_sL, gR_sD, gA_sI, gA_sR, gA_sQ, gA_sL, gA_sD, gQ_sI, gQ_sR, gQ_sA, gQ_sL, gQ_sD, gL_sI, gL_sR, gL_sA, gL_sQ, gL_sD]; assumption) | simp [kd_sI, kd_sR, kd_sA, kd_sQ, kd_sL, kd_sD, ln_sI, ln_sR, ln_sA, ln_sQ, ln_sL, ln_sD, gI_sR, gI_sA, gI_sQ, gI_sL, gI_sD, gR_sI, gR_sA, gR_sQ, gR_sL, gR_sD, gA_sI, gA_sR, gA_sQ, gA_sL, gA_sD, gQ_sI, gQ_sR, gQ_sA, gQ_sL, gQ_sD, gL_sI, gL_sR, gL_sA, gL_sQ, gL_sD, kd_nO, kd_nA, *]) (by first | decide | assumption) (by first | assumption | exact gI_sIs | exact gR_sRs | with_reducible rfl | (simp only [kd_sI, kd_sR, kd_sA, kd_sQ, kd_sL, kd_sD, ln_sI, ln_sR, ln_sA, ln_sQ, ln_sL, ln_sD, gI_sR, gI_sA, gI_sQ, gI_sL, gI_sD, gR_sI, gR_sA, gR_sQ, gR_sL, gR_sD, gA_sI, gA_sR, gA_sQ, gA_sL, gA_sD, gQ_sI, gQ_sR, gQ_sA, gQ_sL, gQ_sD, gL_sI, gL_sR, gL_sA, gL_sQ, gL_sD]; first | done | assumption | with_reducible rfl) | rfl) (by first | with_reducible rfl | assumption | (simp only [nI_add, pk_mul, nI_1]; with_reducible rfl)) (by first | assumption | omega) (by first | assumption | omega) (by first | assumption | exact gI_sIs | exact gR_sRs | with_reducible rfl | (simp only [kd_sI, kd_sR, kd_sA, kd_sQ, kd_sL, kd_sD, ln_sI, ln_sR, ln_sA, ln_sQ, ln_sL, ln_sD, gI_sR, gI_sA, gI_sQ, gI_sL, gI_sD, gR_sI, gR_sA, gR_sQ, gR_sL, gR_sD, gA_sI, gA_sR, gA_sQ, gA_sL, gA_sD, gQ_sI, gQ_sR, gQ_sA, gQ_sL, gQ_sD, gL_sI, gL_sR, gL_sA, gL_sQ, gL_sD]; first | done | assumption | with_reducible rfl) | rfl) ?_
        refine r_callV (As := [_]) (mc' := 0) (ms' := 0) dX2_lay_23 k_X2_110 rfl (by first | assumption | (simp only [kd_sI, kd_sR, kd_sA, kd_sQ, kd_sL, kd_sD, ln_sI, ln_sR, ln_sA, ln_sQ, ln_sL, ln_sD, gI_sR, gI_sA, gI_sQ, gI_sL, gI_sD, gR_sI, gR_sA, gR_sQ, gR_sL, gR_sD, gA_sI, gA_sR, gA_sQ, gA_sL, gA_sD, gQ_sI, gQ_sR, gQ_sA, gQ_sL, gQ_sD, gL_sI, gL_sR, gL_sA, gL_sQ, gL_sD]; assumption) | simp [kd_sI, kd_sR, kd_sA, kd_sQ, kd_sL, kd_sD, ln_sI, ln_sR, ln_sA, ln_sQ, ln_sL, ln_sD, gI_sR, gI_sA, gI_sQ, gI_sL, gI_sD, gR_sI, gR_sA, gR_sQ, gR_sL, gR_sD, gA_sI, gA_sR, gA_sQ, gA_sL, gA_sD, gQ_sI, gQ_sR, gQ_sA, gQ_sL, gQ_sD, gL_sI, gL_sR, gL_sA, gL_sQ, gL_sD, kd_nO, kd_nA, *]) (T := TJ2) (N := 3) rfl (by first | assumption | omega) (by first | assumption | omega) (by first | assumption | omega) (Nat.le_of_ble_eq_true rfl) ?_
        refine s_get (by omega) hT2.1 hut (by omega) ?_
        show AW mX2_lay G d Qr Qx _ _ H2 26 _ _
        refine r_cast dX2_lay_26 (by first | assumption | (simp only [kd_sI, kd_sR, kd_sA, kd_sQ, kd_sL, kd_sD, ln_sI, ln_sR, ln_sA, ln_sQ, ln_sL, ln_sD, gI_sR, gI_sA, gI_sQ, gI_sL, gI_sD, gR_sI, gR_sA, gR_sQ, gR_sL, gR_sD, gA_sI, gA_sR, gA_sQ, gA_sL, gA_sD, gQ_sI, gQ_sR, gQ_sA, gQ_sL, gQ_sD, gL_sI, gL_sR, gL_sA, gL_sQ, gL_sD]; assumption) | simp [kd_sI, kd_sR, kd_sA, kd_sQ, kd_sL, kd_sD, ln_sI, ln_sR, ln_sA, ln_sQ, ln_sL, ln_sD, gI_sR, gI_sA, gI_sQ, gI_sL, gI_sD, gR_sI, gR_sA, gR_sQ, gR_sL, gR_sD, gA_sI, gA_sR, gA_sQ, gA_sL, gA_sD, gQ_sI, gQ_sR, gQ_sA, gQ_sL, gQ_sD, gL_sI, gL_sR, gL_sA, gL_sQ, gL_sD, kd_nO, kd_nA, *]) (T := TX4) (N := 7) rfl q1233 (Or.inl rfl) ?_
        refine r_astore dX2_lay_29 (Nat.le_of_ble_eq_true rfl) (by simp only [lset]; rfl) ?_
        refine r_aload dX2_lay_31 rfl ?_
        refine r_aload_n (i := 2) dX2_lay_33 rfl rfl ?_
        refine r_aload_n (i := 0) dX2_lay_34 rfl rfl ?_
        refine r_getI dX2_lay_35 fR_X2_34 (by first | assumption | (simp only [kd_sI, kd_sR, kd_sA, kd_sQ, kd_sL, kd_sD, ln_sI, ln_sR, ln_sA, ln_sQ, ln_sL, ln_sD, gI_sR, gI_sA, gI_sQ, gI_sL, gI_sD, gR_sI, gR_sA, gR_sQ, gR_sL, gR_sD, gA_sI, gA_sR, gA_sQ, gA_sL, gA_sD, gQ_sI, gQ_sR, gQ_sA, gQ_sL, gQ_sD, gL_sI, gL_sR, gL_sA, gL_sQ, gL_sD]; assumption) | simp [kd_sI, kd_sR, kd_sA, kd_sQ, kd_sL, kd_sD, ln_sI, ln_sR, ln_sA, ln_sQ, ln_sL, ln_sD, gI_sR, gI_sA, gI_sQ, gI_sL, gI_sD, gR_sI, gR_sA, gR_sQ, gR_sL, gR_sD, gA_sI, gA_sR, gA_sQ, gA_sL, gA_sD, gQ_sI, gQ_sR, gQ_sA, gQ_sL, gQ_sD, gL_sI, gL_sR, gL_sA, gL_sQ, gL_sD, kd_nO, kd_nA, *]) (by first | assumption | exact gI_sIs | exact gR_sRs | with_reducible rfl | (simp only [kd_sI, kd_sR, kd_sA, kd_sQ, kd_sL, kd_sD, ln_sI, ln_sR, ln_sA, ln_sQ, ln_sL, ln_sD, gI_sR, gI_sA, gI_sQ, gI_sL, gI_sD, gR_sI, gR_sA, gR_sQ, gR_sL, gR_sD, gA_sI, gA_sR, gA_sQ, gA_sL, gA_sD, gQ_sI, gQ_sR, gQ_sA, gQ_sL, gQ_sD, gL_sI, gL_sR, gL_sA, gL_sQ, gL_sD]; first | done | assumption | with_reducible rfl) | rfl) ?_
        refine r_callV (As := [_, _]) (mc' := 0) (ms' := 0) dX2_lay_38 k_X2_173 rfl (by first | assumption | (simp only [kd_sI, kd_sR, kd_sA, kd_sQ, kd_sL, kd_sD, ln_sI, ln_sR, ln_sA, ln_sQ, ln_sL, ln_sD, gI_sR, gI_sA, gI_sQ, gI_sL, gI_sD, gR_sI, gR_sA, gR_sQ, gR_sL, gR_sD, gA_sI, gA_sR, gA_sQ, gA_sL, gA_sD, gQ_sI, gQ_sR, gQ_sA, gQ_sL, gQ_sD, gL_sI, gL_sR, gL_sA, gL_sQ, gL_sD]; assumption) | simp [kd_sI, kd_sR, kd_sA, kd_sQ, kd_sL, kd_sD, ln_sI, ln_sR, ln_sA, ln_sQ, ln_sL, ln_sD, gI_sR, gI_sA, gI_sQ, gI_sL, gI_sD, gR_sI, gR_sA, gR_sQ, gR_sL, gR_sD, gA_sI, gA_sR, gA_sQ, gA_sL, gA_sD, gQ_sI, gQ_sR, gQ_sA, gQ_sL, gQ_sD, gL_sI, gL_sR, gL_sA, gL_sQ, gL_sD, kd_nO, kd_nA, *]) (T := TX4) (N := 7) rfl (by first | assumption | omega) (by first | assumption | omega) (by first | assumption | omega) (Nat.le_of_ble_eq_true rfl) ?_
        refine c_compFor (by omega) hTu kA f65 f66 ?_
        rw [tvFor_place hB hYY hut, hk0]
        show AW mX2_lay G d Qr Qx _ _ H2 41 [_, _, _, _, _, _, _, _] [vI (nI k0)]
        refine r_istore dX2_lay_41 (Nat.le_of_ble_eq_true rfl) (by simp only [lset]; rfl) ?_
        refine r_aload dX2_lay_43 rfl ?_
        refine r_aload_n (i := 2) dX2_lay_45 rfl rfl ?_
        refine r_iload dX2_lay_46 rfl ?_
        refine r_callV (As := [_, _]) (mc' := 0) (ms' := 0) dX2_lay_48 k_X2_221 rfl (by first | assumption | (simp only [kd_sI, kd_sR, kd_sA, kd_sQ, kd_sL, kd_sD, ln_sI, ln_sR, ln_sA, ln_sQ, ln_sL, ln_sD, gI_sR, gI_sA, gI_sQ, gI_sL, gI_sD, gR_sI, gR_sA, gR_sQ, gR_sL, gR_sD, gA_sI, gA_sR, gA_sQ, gA_sL, gA_sD, gQ_sI, gQ_sR, gQ_sA, gQ_sL, gQ_sD, gL_sI, gL_sR, gL_sA, gL_sQ, gL_sD]; assumption) | simp [kd_sI, kd_sR, kd_sA, kd_sQ, kd_sL, kd_sD, ln_sI, ln_sR, ln_sA, ln_sQ, ln_sL, ln_sD, gI_sR, gI_sA, gI_sQ, gI_sL, gI_sD, gR_sI, gR_sA, gR_sQ, gR_sL, gR_sD, gA_sI, gA_sR, gA_sQ, gA_sL, gA_sD, gQ_sI, gQ_sR, gQ_sA, gQ_sL, gQ_sD, gL_sI, gL_sR, gL_sA, gL_sQ, gL_sD, kd_nO, kd_nA, *]) (T := TX4) (N := 7) rfl (by first | assumption | omega) (by first | assumption | omega) (by first | assumption | omega) (Nat.le_of_ble_eq_true rfl) ?_
        refine c_lay hTu kA f65 f66 (place_lt hk0) (fun H3 hK3 hT3 => ?_)
        refine AW.st0 (fun z3 => ?_)
        have eu := tv_route_in hB hI' hc hr7 (fun x hx => (hrt x hx).1) hnd h0 him (k0 := k0) (by rw [hu, hy]; exact hk0)
        rw [hu, hy] at eu
        have eo : ∀ w, w < 5 → routeG g c r (41 + 5 * u + w) = g (41 + 5 * u + w) := fun w hw => out _ (by omega)
        have hT3' := hT3.to (w := tvOf (routeG g c r) u) (out (41 + 5 * u) (by omega)).symm (out (42 + 5 * u) (by omega)).symm (out (43 + 5 * u) (by omega)).symm (out (44 + 5 * u) (by omega)).symm (nat_eq (out (45 + 5 * u) (by omega))).symm (fun k hk => by
          have hk4 : k < 4 := by have := (hB.2.2.2.2.1 u hut).1.2; exact Nat.lt_of_lt_of_le hk (by show nat g (45 + 5 * u) ≤ 4; omega)
          obtain ⟨w1, w2, w3⟩ := eu k hk4
          exact ⟨w1.symm, w2.symm, w3.symm⟩)
        have hK23 : ∀ b, kd H2 b ≠ 0 → TrA (tc u) (tf u) (tu u) b → KLay (kd H2 b) := fun b _ q => by
          have := TrA_kd hT2 hut q
          unfold KLay
          omega
        obtain ⟨q1, q2⟩ := hT2.set hut hK3 z3 hT3'
        have q2' := q2.to (tv' := tvL g (routeG g c r) r (i + 1)) (fun x _ => by rw [tvL_s him, hu])
        have q3 := hC2.ks q1 (fun b _ e => by omega)
        have hs3 := hs.tr2 q1 (fun b hb e => by rw [hs.2.1 b hb] at e; exact Or.inl e)
        have hk3 := hK.kds hK3 hK23
        have kc3 : kd H3 (ca c) = 4 := (q3.2.2.2.1 c hc).1.1.1
        have f27 : gR H3 27 (ca c) = some (rl c) := (q3.2.2.2.1 c hc).1.1.2.2.2.2.2.2.2
        show AW mX2_lay G d Qr Qx _ _ H3 51 _ _
        refine r_aload_n (i := 1) dX2_lay_51 rfl rfl ?_
        refine r_getR dX2_lay_52 fR_X2_225 (by first | assumption | (simp only [kd_sI, kd_sR, kd_sA, kd_sQ, kd_sL, kd_sD, ln_sI, ln_sR, ln_sA, ln_sQ, ln_sL, ln_sD, gI_sR, gI_sA, gI_sQ, gI_sL, gI_sD, gR_sI, gR_sA, gR_sQ, gR_sL, gR_sD, gA_sI, gA_sR, gA_sQ, gA_sL, gA_sD, gQ_sI, gQ_sR, gQ_sA, gQ_sL, gQ_sD, gL_sI, gL_sR, gL_sA, gL_sQ, gL_sD]; assumption) | simp [kd_sI, kd_sR, kd_sA, kd_sQ, kd_sL, kd_sD, ln_sI, ln_sR, ln_sA, ln_sQ, ln_sL, ln_sD, gI_sR, gI_sA, gI_sQ, gI_sL, gI_sD, gR_sI, gR_sA, gR_sQ, gR_sL, gR_sD, gA_sI, gA_sR, gA_sQ, gA_sL, gA_sD, gQ_sI, gQ_sR, gQ_sA, gQ_sL, gQ_sD, gL_sI, gL_sR, gL_sA, gL_sQ, gL_sD, kd_nO, kd_nA, *]) (by first | assumption | exact gI_sIs | exact gR_sRs | with_reducible rfl | (simp only [kd_sI, kd_sR, kd_sA, kd_sQ, kd_sL, kd_sD, ln_sI, ln_sR, ln_sA, ln_sQ, ln_sL, ln_sD, gI_sR, gI_sA, gI_sQ, gI_sL, gI_sD, gR_sI, gR_sA, gR_sQ, gR_sL, gR_sD, gA_sI, gA_sR, gA_sQ, gA_sL, gA_sD, gQ_sI, gQ_sR, gQ_sA, gQ_sL, gQ_sD, gL_sI, gL_sR, gL_sA, gL_sQ, gL_sD]; first | done | assumption | with_reducible rfl) | rfl) ?_
        refine r_new dX2_lay_55 cT_X7 q1231 q1771 q124 (by decide +kernel) (by first | assumption | omega) (by first | assumption | omega) (fun q55 hq55 => ?_)
        have hq : kd H3 q55 = 0 := hq55
        refine AW.name (fun H4 hH4 => ?_)
        have hK4 : Ks (fun _ => False) H3 H4 := by rw [hH4]; exact Ks.rf.nO hq
        have kq : kd H4 q55 = 6 := by rw [hH4, kd_nO, if_pos rfl]
        have eS3 := hk3.at (a := S) (by rw [s1]; decide) (fun q => q.1 s1)
        have eS4 := hK4.at (a := S) (by rw [at_kd eS3, s1]; decide) (fun h => h)
        have kS4 : kd H4 S = 11 := by rw [at_kd eS4, at_kd eS3]; exact s1
        have f504 : gR H4 50 S = some ba := by rw [at_gR eS4, at_gR eS3]; exact s2
        have eB3 := hk3.at (a := ba) (by rw [s4]; decide) (fun q => q.2.1 s4)
        have eB4 := hK4.at (a := ba) (by rw [at_kd eB3, s4]; decide) (fun h => h)
        have kB4 : kd H4 ba = 1050 := by rw [at_kd eB4, at_kd eB3]; exact s4
        have lB4 : ln H4 ba = 12 := by rw [at_ln eB4, at_ln eB3]; exact s5
        have gB4 : gA H4 1050 ba i = nI u := by rw [at_gA eB4, at_gA eB3, s6 i him, hu]
        refine r_dup dX2_lay_58 rfl ?_
        refine r_aload_n (i := 3) dX2_lay_59 rfl rfl ?_
        refine r_getR dX2_lay_60 fR_X2_217 (by first | assumption | (simp only [kd_sI, kd_sR, kd_sA, kd_sQ, kd_sL, kd_sD, ln_sI, ln_sR, ln_sA, ln_sQ, ln_sL, ln_sD, gI_sR, gI_sA, gI_sQ, gI_sL, gI_sD, gR_sI, gR_sA, gR_sQ, gR_sL, gR_sD, gA_sI, gA_sR, gA_sQ, gA_sL, gA_sD, gQ_sI, gQ_sR, gQ_sA, gQ_sL, gQ_sD, gL_sI, gL_sR, gL_sA, gL_sQ, gL_sD]; assumption) | simp [kd_sI, kd_sR, kd_sA, kd_sQ, kd_sL, kd_sD, ln_sI, ln_sR, ln_sA, ln_sQ, ln_sL, ln_sD, gI_sR, gI_sA, gI_sQ, gI_sL, gI_sD, gR_sI, gR_sA, gR_sQ, gR_sL, gR_sD, gA_sI, gA_sR, gA_sQ, gA_sL, gA_sD, gQ_sI, gQ_sR, gQ_sA, gQ_sL, gQ_sD, gL_sI, gL_sR, gL_sA, gL_sQ, gL_sD, kd_nO, kd_nA, *]) (by first | assumption | exact gI_sIs | exact gR_sRs | with_reducible rfl | (simp only [kd_sI, kd_sR, kd_sA, kd_sQ, kd_sL, kd_sD, ln_sI, ln_sR, ln_sA, ln_sQ, ln_sL, ln_sD, gI_sR, gI_sA, gI_sQ, gI_sL, gI_sD, gR_sI, gR_sA, gR_sQ, gR_sL, gR_sD, gA_sI, gA_sR, gA_sQ, gA_sL, gA_sD, gQ_sI, gQ_sR, gQ_sA, gQ_sL, gQ_sD, gL_sI, gL_sR, gL_sA, gL_sQ, gL_sD]; first | done | assumption | with_reducible rfl) | rfl) ?_
        refine r_iload dX2_lay_63 rfl ?_
        refine r_iald dX2_lay_65 (by first | assumption | (simp only [kd_sI, kd_sR, kd_sA, kd_sQ, kd_sL, kd_sD, ln_sI, ln_sR, ln_sA, ln_sQ, ln_sL, ln_sD, gI_sR, gI_sA, gI_sQ, gI_sL, gI_sD, gR_sI, gR_sA, gR_sQ, gR_sL, gR_sD, gA_sI, gA_sR, gA_sQ, gA_sL, gA_sD, gQ_sI, gQ_sR, gQ_sA, gQ_sL, gQ_sD, gL_sI, gL_sR, gL_sA, gL_sQ, gL_sD]; assumption) | simp [kd_sI, kd_sR, kd_sA, kd_sQ, kd_sL, kd_sD, ln_sI, ln_sR, ln_sA, ln_sQ, ln_sL, ln_sD, gI_sR, gI_sA, gI_sQ, gI_sL, gI_sD, gR_sI, gR_sA, gR_sQ, gR_sL, gR_sD, gA_sI, gA_sR, gA_sQ, gA_sL, gA_sD, gQ_sI, gQ_sR, gQ_sA, gQ_sL, gQ_sD, gL_sI, gL_sR, gL_sA, gL_sQ, gL_sD, kd_nO, kd_nA, *]) (by first | decide | assumption) (by first | assumption | exact gI_sIs | exact gR_sRs | with_reducible rfl | (simp only [kd_sI, kd_sR, kd_sA, kd_sQ, kd_sL, kd_sD, ln_sI, ln_sR, ln_sA, ln_sQ, ln_sL, ln_sD, gI_sR, gI_sA, gI_sQ, gI_sL, gI_sD, gR_sI, gR_sA, gR_sQ, gR_sL, gR_sD, gA_sI, gA_sR, gA_sQ, gA_sL, gA_sD, gQ_sI, gQ_sR, gQ_sA, gQ_sL, gQ_sD, gL_sI, gL_sR, gL_sA, gL_sQ, gL_sD]; first | done | assumption | with_reducible rfl) | rfl) (by first | with_reducible rfl | assumption | (simp only [nI_add, pk_mul, nI_1]; with_reducible rfl)) (by first | assumption | omega) (by first | assumption | omega) (by first | assumption | exact gI_sIs | exact gR_sRs | with_reducible rfl | (simp only [kd_sI, kd_sR, kd_sA, kd_sQ, kd_sL, kd_sD, ln_sI, ln_sR, ln_sA, ln_sQ, ln_sL, ln_sD, gI_sR, gI_sA, gI_sQ, gI_sL, gI_sD, gR_sI, gR_sA, gR_sQ, gR_sL, gR_sD, gA_sI, gA_sR, gA_sQ, gA_sL, gA_sD, gQ_sI, gQ_sR, gQ_sA, gQ_sL, gQ_sD, gL_sI, gL_sR, gL_sA, gL_sQ, gL_sD]; first | done | assumption | with_reducible rfl) | rfl) ?_
        refine r_iload dX2_lay_66 rfl ?_
        refine r_callI (As := [_, _]) (mc' := 0) (ms' := 0) dX2_lay_68 k_X2_230 rfl (by first | assumption | omega) (by first | assumption | omega) (by first | assumption | omega) (Nat.le_of_ble_eq_true rfl) ?_
        refine c_stepInit (by omega) kq ?_
        refine AW.name (fun H5 hH5 => ?_)
        refine AW.st0 (fun z5 => ?_)
        have hK5' : Ks (fun b => b = q55) H4 H5 := by rw [hH5]; exact ((Ks.rf (S := fun b => b = q55)).sI (fun _ => rfl)).sI (fun _ => rfl)
        have hK5 : Ks (fun _ => False) H3 H5 := hK4.tr2 hK5' (fun b hb e => by rw [e] at hb; exact hb hq)
        have s5 : Stq G (fun _ => False) H3 O2 H5 (rlb O2 H3 0) := Stq.rl _ hK5 z5
        have hk5 := hk3.kds hK5 (fun _ _ h => h.elim)
        have kq5 : kd H5 q55 = 6 := by rw [hH5]; exact kq
        have i33 : gI H5 33 q55 = nI u := by rw [hH5, gI_sIn (by decide), gI_sIs]
        have i34 : gI H5 34 q55 = nI k0 := by rw [hH5, gI_sIs]
        have oq : rlb O2 H3 0 q55 = 0 := rlb_f hq
        obtain ⟨O5, hO5⟩ : ∃ O5, O5 = rlb O2 H3 0 := ⟨_, rfl⟩
        rw [← hO5] at s5 oq
        have x5 := q2'.ks s5 (fun _ _ h => h.elim)
        have y5 := q3.ks s5 (fun _ _ h => h.elim)
        have hs5 := hs3.tr2 s5 (fun _ _ h => h.elim)
        have hCo := (y5.2.2.2.1 c hc).1
        have hst := (y5.2.2.2.1 c hc).2.2.2
        have e4 : (vLy g (routeG g c r) c i 4).toNatClampNeg = i := by
          unfold vLy
          rw [if_pos rfl]
          exact nI_clamp (by omega)
        rw [upA_n, e4] at hCo hst
        have kr5 := hCo.2.2.2.1.1
        show AW mX2_lay G d Qr Qx _ _ H5 71 _ _
        refine r_callV (As := [_]) (mc' := 1) (ms' := 22) dX2_lay_71 k_X2_68 rfl (by first | assumption | (simp only [kd_sI, kd_sR, kd_sA, kd_sQ, kd_sL, kd_sD, ln_sI, ln_sR, ln_sA, ln_sQ, ln_sL, ln_sD, gI_sR, gI_sA, gI_sQ, gI_sL, gI_sD, gR_sI, gR_sA, gR_sQ, gR_sL, gR_sD, gA_sI, gA_sR, gA_sQ, gA_sL, gA_sD, gQ_sI, gQ_sR, gQ_sA, gQ_sL, gQ_sD, gL_sI, gL_sR, gL_sA, gL_sQ, gL_sD]; assumption) | simp [kd_sI, kd_sR, kd_sA, kd_sQ, kd_sL, kd_sD, ln_sI, ln_sR, ln_sA, ln_sQ, ln_sL, ln_sD, gI_sR, gI_sA, gI_sQ, gI_sL, gI_sD, gR_sI, gR_sA, gR_sQ, gR_sL, gR_sD, gA_sI, gA_sR, gA_sQ, gA_sL, gA_sD, gQ_sI, gQ_sR, gQ_sA, gQ_sL, gQ_sD, gL_sI, gL_sR, gL_sA, gL_sQ, gL_sD, kd_nO, kd_nA, *]) (T := TJ2) (N := 3) rfl (by first | assumption | omega) (by first | assumption | omega) (by first | assumption | omega) (Nat.le_of_ble_eq_true rfl) ?_
        refine s_add (by omega) hCo.2.2.2.1 (by omega) (Or.inl ⟨by rw [kq5]; decide, by rw [kq5]; decide⟩) (fun H6 e6 hK6 he6 hL6 => ?_)
        refine AW.st0 (fun z6 => ?_)
        have nsl := sl_ne hCo.2.2.2.1 z5
        have vE : ∀ k, k ≠ 4 → vLy g (routeG g c r) c i k = vLy g (routeG g c r) c (i + 1) k := by
          intro k hk
          unfold vLy
          rw [if_neg hk, if_neg hk]
        have hT6 : CaO G H6 (ca c) (rl c) e6 (va_up (st2 c) i q55) (i + 1) (vLy g (routeG g c r) c (i + 1)) := by
          obtain ⟨⟨a1, a2, a3, a4, a5, a6, a7, a8⟩, a9, a10, a11, a12⟩ := hCo
          have e := hK6.at (a := ca c) (by rw [a1]; decide) (nsl _ (by rw [a1]; decide) (by rw [a1]; decide) (by rw [a1]; decide))
          refine ⟨⟨by rw [at_kd e]; exact a1, by rw [at_gI e, ← vE 0 (by decide)]; exact a2, by rw [at_gI e, ← vE 1 (by decide)]; exact a3, by rw [at_gI e, ← vE 2 (by decide)]; exact a4, by rw [at_gI e, ← vE 3 (by decide)]; exact a5, by rw [at_gI e, ← vE 5 (by decide)]; exact a6, by rw [at_gI e, ← vE 6 (by decide)]; exact a7, by rw [at_gR e]; exact a8⟩, ?_, by omega, hL6, fun j hj => ?_⟩
          · unfold vLy
            rw [if_pos rfl]
          · by_cases hji : j = i
            · rw [hji, vup_n]
              have e := hK6.at (a := q55) (by rw [kq5]; decide) (nsl _ (by rw [kq5]; decide) (by rw [kq5]; decide) (by rw [kq5]; decide))
              rw [at_kd e, at_gI e, at_gI e, i33, i34]
              refine ⟨kq5, ?_, ?_⟩
              · unfold vLy
                rw [if_neg (by omega), if_neg (by omega), cv_at c (109 + 21 * c + i) (by omega), (v9 i him).1, hu]
              · unfold vLy
                rw [if_neg (by omega), if_neg (by omega), cv_at c (116 + 21 * c + i) (by omega), (v9 i him).2, hu, hy, hk0]
                rfl
            · rw [vup_o hji]
              obtain ⟨b1, b2, b3⟩ := a12 j (by omega)
              have e := hK6.at (a := st2 c j) (by rw [b1]; decide) (nsl _ (by rw [b1]; decide) (by rw [b1]; decide) (by rw [b1]; decide))
              rw [at_kd e, at_gI e, at_gI e, ← vE (7 + j) (by omega), ← vE (14 + j) (by omega)]
              exact ⟨b1, b2, b3⟩
        obtain ⟨w1, w2⟩ := y5.set (v := vLy g (routeG g c r) c (i + 1)) (k := i + 1) z5 hc (by omega) (hK6.mono (fun b _ q => q.elim (fun e => Or.inr (Or.inl e)) (fun e => Or.inr (Or.inr e)))) z6 (by unfold vLy; rw [if_pos rfl]; exact nI_clamp (by omega)) hT6 he6 (fun j hj => by
          by_cases hji : j = i
          · rw [hji, vup_n]
            exact ⟨by rw [kq5]; decide, oq⟩
          · rw [vup_o hji]
            exact ⟨by rw [(hCo.2.2.2.2 j (by omega)).1]; decide, hst j (by omega)⟩)
        have w2' := w2.to (cv' := upA (cvOf g) c (vLy g (routeG g c r) c (i + 1))) (fun c' k hc' hk => by
          by_cases e : c' = c
          · rw [e, upA_n, upA_n]
          · rw [upA_i e, upA_i e, upA_i e])
        have x6 := x5.ks w1 (fun b _ e => by omega)
        have hs6 := hs5.tr2 w1 (fun b hb e => by rw [hs5.2.1 b hb] at e; exact Or.inr e)
        have hk6 := hk5.kds hK6 (fun b hb q => by
          refine ⟨fun e => ?_, fun e => ?_, fun e => ?_, fun e => ?_⟩ <;> exact nsl b (by rw [e]; decide) (by rw [e]; decide) hb q)
        show AW mX2_lay G d Qr Qx _ _ H6 74 _ _
        refine r_istore dX2_lay_74 (Nat.le_of_ble_eq_true rfl) (by simp only [lset]; rfl) ?_
        refine r_iinc dX2_lay_76 rfl (by first | exact nI_1 _ | rfl) (by simp only [lset]; rfl) ?_
        refine r_goto (tgt := 3) dX2_lay_79 (by decide) ?_
        exact ih (i + 1) _ _ H6 _ _ _ _ _ _ (by omega) (by omega) (by omega) hs6 hk6 x6 w2'
  refine loop m 0 _ _ H O _ _ _ re st (by omega) (by omega) (by omega) ⟨Ks.rf, fun _ _ => rfl, z0⟩ Ks.rf (hT.to (fun x _ => by unfold tvL; rw [List.take_zero, if_neg (by simp)])) (hC.to2 (fun c' k hc' hk => ?_) (fun c' j hc' hj => ?_))
  · by_cases e : c' = c
    · rw [e, upA_n]
      unfold vLy
      by_cases h4 : k = 4
      · rw [if_pos h4, h4, cv_at c (106 + 21 * c) (by omega)]
        exact ((hB.2.2.2.2.2 c hc).2.1.1.trans (by rw [h0])).symm
      · rw [if_neg h4]
        by_cases h3 : k = 3
        · rw [if_pos h3, h3, cv_at c (105 + 21 * c) (by omega), hs0]
          rfl
        · rw [if_neg h3]
          by_cases h5 : k = 5
          · rw [h5, cv_at c (107 + 21 * c) (by omega), cv_at c (107 + 21 * c) (by omega), v107]
          · by_cases h6 : k = 6
            · rw [h6, cv_at c (108 + 21 * c) (by omega), cv_at c (108 + 21 * c) (by omega), v108]
            · unfold cvOf
              exact out _ (by omega)
    · rw [upA_i e]
  · by_cases e : c' = c
    · rw [e] at hj
      have : (cvOf g c 4).toNatClampNeg = 0 := by rw [cv_at c (106 + 21 * c) (by omega)]; exact h0
      omega
    · rw [upA_i e]
      exact ⟨rfl, rfl⟩
theorem stepsL_at {c i : Nat} (hi : i < nat g (106 + 21 * c)) : (stepsL g c).getD i 0 = nat g (109 + 21 * c + i) := by
  unfold stepsL
  simp [List.getD, hi]
theorem stepsL_len {c : Nat} : (stepsL g c).length = nat g (106 + 21 * c) := by
  unfold stepsL
  simp
theorem pl_leave {c : Nat} {eT M : Nat} {ty nm nd : Nat → Nat} (hd : 6 ≤ d) (hP : PlF H O (8 * t + 1) p A.ty A.M A.tr A.ca A.dr (g 0) (g 1) (g 2)) (ht0 : 1 ≤ t) (hY : TyX G H O (8 * t + 2) A.ty M (nat g 3) g eT ty nm nd) (hT : TrX G H O (8 * t + 3) A.tr (nat g 40) (tvOf g) eR tr tc tf tu) (hC : CaX G H O (8 * t + 4) A.ca (nat g 101) (cvOf g) eC ca rl re st) (z0 : kd H (gSt G 1) = 0) (hI : IG g) (hc : c < nat g 101) (hQ : ∀ H' O', Stq G (fun b => O b = 8 * t + 3 ∨ O b = 8 * t + 4) H O H' O' → Ks (fun b => KLay (kd H b)) H H' → TrX G H' O' (8 * t + 3) A.tr (nat g 40) (tvOf (leavesG g c)) eR tr tc tf tu → (∃ re' st', CaX G H' O' (8 * t + 4) A.ca (nat g 101) (cvOf (leavesG g c)) eC ca rl re' st') → Qr (some (vI (g (106 + 21 * c)))) H') : AMet G d 1 4 yX2_leave wX2_leave H [vR (some p), vR (some (ca c))] Qr Qx := by
  have hB := hI.1
  have h40 := hB.2.1.2
  have h101 := hB.2.2.1.2
  have h3 := hB.1.2
  obtain ⟨out, v5, v6, v7, v8⟩ := leavesG_v (g := g) (c0 := c)
  have hGR := hI.2.2.2.2.2.2.2.2.2.1 c hc
  obtain ⟨m, hm⟩ : ∃ m, nat g (106 + 21 * c) = m := ⟨_, rfl⟩
  have hCo := (hC.2.2.2.1 c hc).1
  have e4 : (cvOf g c 4).toNatClampNeg = m := by rw [cv_at c (106 + 21 * c) (by omega)]; exact hm
  rw [e4] at hCo
  have hm7 := hCo.2.2.1
  obtain ⟨y, hy⟩ : ∃ y, nat g (102 + 21 * c) = y := ⟨_, rfl⟩
  have hy3 : y < nat g 3 := by rw [← hy]; exact (hB.2.2.2.2.2 c hc).1.2
  have e0 : cvOf g c 0 = nI y := by rw [cv_at c (102 + 21 * c) (by omega), ← hy]; exact (hB.2.2.2.2.2 c hc).1.1
  have e106 : g (106 + 21 * c) = nI m := by rw [← cv_at (g := g) c (106 + 21 * c) (k := 4) (by omega)]; exact hCo.2.1
  rw [e106] at hQ
  have f27 := hCo.1.2.2.2.2.2.2.2
  have kc := hCo.1.1
  have kr := hCo.2.2.2.1.1
  obtain ⟨ky1, ky2, ky3, ky4⟩ := (hY.2.2.2.2.2 y hy3).1
  refine AMet.of (M := mX2_leave) (maxL := 5) (by first | rfl | decide +kernel) rfl (Nat.le_of_ble_eq_true rfl) ?_
  show AW mX2_leave _ _ _ _ _ _ _ 0 [some (vR (some p)), some (vR (some (ca c))), none, none, none] []
  refine r_aload_n (i := 1) dX2_leave_0 rfl rfl ?_
  refine r_getR dX2_leave_1 fR_X2_225 (by first | assumption | (simp only [kd_sI, kd_sR, kd_sA, kd_sQ, kd_sL, kd_sD, ln_sI, ln_sR, ln_sA, ln_sQ, ln_sL, ln_sD, gI_sR, gI_sA, gI_sQ, gI_sL, gI_sD, gR_sI, gR_sA, gR_sQ, gR_sL, gR_sD, gA_sI, gA_sR, gA_sQ, gA_sL, gA_sD, gQ_sI, gQ_sR, gQ_sA, gQ_sL, gQ_sD, gL_sI, gL_sR, gL_sA, gL_sQ, gL_sD]; assumption) | simp [kd_sI, kd_sR, kd_sA, kd_sQ, kd_sL, kd_sD, ln_sI, ln_sR, ln_sA, ln_sQ, ln_sL, ln_sD, gI_sR, gI_sA, gI_sQ, gI_sL, gI_sD, gR_sI, gR_sA, gR_sQ, gR_sL, gR_sD, gA_sI, gA_sR, gA_sQ, gA_sL, gA_sD, gQ_sI, gQ_sR, gQ_sA, gQ_sL, gQ_sD, gL_sI, gL_sR, gL_sA, gL_sQ, gL_sD, kd_nO, kd_nA, *]) (by first | assumption | exact gI_sIs | exact gR_sRs | with_reducible rfl | (simp only [kd_sI, kd_sR, kd_sA, kd_sQ, kd_sL, kd_sD, ln_sI, ln_sR, ln_sA, ln_sQ, ln_sL, ln_sD, gI_sR, gI_sA, gI_sQ, gI_sL, gI_sD, gR_sI, gR_sA, gR_sQ, gR_sL, gR_sD, gA_sI, gA_sR, gA_sQ, gA_sL, gA_sD, gQ_sI, gQ_sR, gQ_sA, gQ_sL, gQ_sD, gL_sI, gL_sR, gL_sA, gL_sQ, gL_sD]; first | done | assumption | with_reducible rfl) | rfl) ?_
  refine r_callV (As := []) (mc' := 0) (ms' := 0) dX2_leave_4 k_X2_88 rfl (by first | assumption | (simp only [kd_sI, kd_sR, kd_sA, kd_sQ, kd_sL, kd_sD, ln_sI, ln_sR, ln_sA, ln_sQ, ln_sL, ln_sD, gI_sR, gI_sA, gI_sQ, gI_sL, gI_sD, gR_sI, gR_sA, gR_sQ, gR_sL, gR_sD, gA_sI, gA_sR, gA_sQ, gA_sL, gA_sD, gQ_sI, gQ_sR, gQ_sA, gQ_sL, gQ_sD, gL_sI, gL_sR, gL_sA, gL_sQ, gL_sD]; assumption) | simp [kd_sI, kd_sR, kd_sA, kd_sQ, kd_sL, kd_sD, ln_sI, ln_sR, ln_sA, ln_sQ, ln_sL, ln_sD, gI_sR, gI_sA, gI_sQ, gI_sL, gI_sD, gR_sI, gR_sA, gR_sQ, gR_sL, gR_sD, gA_sI, gA_sR, gA_sQ, gA_sL, gA_sD, gQ_sI, gQ_sR, gQ_sA, gQ_sL, gQ_sD, gL_sI, gL_sR, gL_sA, gL_sQ, gL_sD, kd_nO, kd_nA, *]) (T := TJ2) (N := 3) rfl (by first | assumption | omega) (by first | assumption | omega) (by first | assumption | omega) (Nat.le_of_ble_eq_true rfl) ?_
  refine s_size hCo.2.2.2.1.1 hCo.2.2.2.1.2.1 ?_
  show AW mX2_leave G d Qr Qx _ _ H 7 _ _
  refine r_istore_n (i := 2) dX2_leave_7 rfl (Nat.le_of_ble_eq_true rfl) (by simp only [lset]; rfl) ?_
  refine r_aload_n (i := 1) dX2_leave_8 rfl rfl ?_
  refine r_getR dX2_leave_9 fR_X2_225 (by first | assumption | (simp only [kd_sI, kd_sR, kd_sA, kd_sQ, kd_sL, kd_sD, ln_sI, ln_sR, ln_sA, ln_sQ, ln_sL, ln_sD, gI_sR, gI_sA, gI_sQ, gI_sL, gI_sD, gR_sI, gR_sA, gR_sQ, gR_sL, gR_sD, gA_sI, gA_sR, gA_sQ, gA_sL, gA_sD, gQ_sI, gQ_sR, gQ_sA, gQ_sL, gQ_sD, gL_sI, gL_sR, gL_sA, gL_sQ, gL_sD]; assumption) | simp [kd_sI, kd_sR, kd_sA, kd_sQ, kd_sL, kd_sD, ln_sI, ln_sR, ln_sA, ln_sQ, ln_sL, ln_sD, gI_sR, gI_sA, gI_sQ, gI_sL, gI_sD, gR_sI, gR_sA, gR_sQ, gR_sL, gR_sD, gA_sI, gA_sR, gA_sQ, gA_sL, gA_sD, gQ_sI, gQ_sR, gQ_sA, gQ_sL, gQ_sD, gL_sI, gL_sR, gL_sA, gL_sQ, gL_sD, kd_nO, kd_nA, *]) (by first | assumption | exact gI_sIs | exact gR_sRs | with_reducible rfl | (simp only [kd_sI, kd_sR, kd_sA, kd_sQ, kd_sL, kd_sD, ln_sI, ln_sR, ln_sA, ln_sQ, ln_sL, ln_sD, gI_sR, gI_sA, gI_sQ, gI_sL, gI_sD, gR_sI, gR_sA, gR_sQ, gR_sL, gR_sD, gA_sI, gA_sR, gA_sQ, gA_sL, gA_sD, gQ_sI, gQ_sR, gQ_sA, gQ_sL, gQ_sD, gL_sI, gL_sR, gL_sA, gL_sQ, gL_sD]; first | done | assumption | with_reducible rfl) | rfl) ?_
  refine r_callV (As := []) (mc' := 1) (ms' := 4) dX2_leave_12 k_X2_42 rfl (by first | assumption | (simp only [kd_sI, kd_sR, kd_sA, kd_sQ, kd_sL, kd_sD, ln_sI, ln_sR, ln_sA, ln_sQ, ln_sL, ln_sD, gI_sR, gI_sA, gI_sQ, gI_sL, gI_sD, gR_sI, gR_sA, gR_sQ, gR_sL, gR_sD, gA_sI, gA_sR, gA_sQ, gA_sL, gA_sD, gQ_sI, gQ_sR, gQ_sA, gQ_sL, gQ_sD, gL_sI, gL_sR, gL_sA, gL_sQ, gL_sD]; assumption) | simp [kd_sI, kd_sR, kd_sA, kd_sQ, kd_sL, kd_sD, ln_sI, ln_sR, ln_sA, ln_sQ, ln_sL, ln_sD, gI_sR, gI_sA, gI_sQ, gI_sL, gI_sD, gR_sI, gR_sA, gR_sQ, gR_sL, gR_sD, gA_sI, gA_sR, gA_sQ, gA_sL, gA_sD, gQ_sI, gQ_sR, gQ_sA, gQ_sL, gQ_sD, gL_sI, gL_sR, gL_sA, gL_sQ, gL_sD, kd_nO, kd_nA, *]) (T := TJ2) (N := 3) rfl (by first | assumption | omega) (by first | assumption | omega) (by first | assumption | omega) (Nat.le_of_ble_eq_true rfl) ?_
  refine s_iterator (by omega) kr (fun H1 it hit hK1 hI1 => ?_)
  refine AW.st0 (fun z1 => ?_)
  have s1 : Stq G (fun _ => False) H O H1 (rlb O H 7) := Stq.rl _ hK1 z1
  have o1 : rlb O H 7 it = 7 := rlb_f hit
  obtain ⟨O1, hO1⟩ : ∃ O1, O1 = rlb O H 7 := ⟨_, rfl⟩
  rw [← hO1] at s1 o1
  have T1 := hT.ks s1 (fun _ _ h => h.elim)
  have C1 := hC.ks s1 (fun _ _ h => h.elim)
  have Y1 := hY.ks s1 (fun _ _ h => h.elim)
  have P1 := hP.ks s1 (fun _ _ h => h.elim)
  have kk1 : Ks (fun b => KLay (kd H b)) H H1 := hK1.mono (fun _ _ h => h.elim)
  show AW mX2_leave G d Qr Qx _ _ H1 15 _ _
  refine r_astore_n (i := 3) dX2_leave_15 rfl (Nat.le_of_ble_eq_true rfl) (by simp only [lset]; rfl) ?_
  have loop : ∀ (k i rc rs : Nat) (H2 : AH) (l4 : Option AV), i + k = m → Stq G (fun b => O1 b = 8 * t + 3 ∨ b = it) H1 O1 H2 O1 → Ks (fun b => KLay (kd H b)) H H2 → ItS H2 it (rl c) i → TrX G H2 O1 (8 * t + 3) A.tr (nat g 40) (tvL g (leavesG g c) (stepsL g c) i) eR tr tc tf tu → AW mX2_leave G d Qr Qx rc rs H2 16 [some (vR (some p)), some (vR (some (ca c))), some (vI (nI m)), some (vR (some it)), l4] [] := by
    intro k
    induction k with
    | zero =>
      intro i rc rs H2 l4 hi hs hK hIt hT2
      have z2 := hs.2.2
      have hC2 := C1.ks hs (fun b _ e => by
        rcases e with e | e
        · omega
        · rw [e]; omega)
      have hCo2 := (hC2.2.2.2.1 c hc).1
      rw [e4] at hCo2
      have him : i = m := by omega
      have ki := hIt.1
      refine r_aload_n (i := 3) dX2_leave_16 rfl rfl ?_
      refine r_callF (As := []) (mc' := 0) (ms' := 0) dX2_leave_17 k_X2_46_J14 rfl (by first | assumption | (simp only [kd_sI, kd_sR, kd_sA, kd_sQ, kd_sL, kd_sD, ln_sI, ln_sR, ln_sA, ln_sQ, ln_sL, ln_sD, gI_sR, gI_sA, gI_sQ, gI_sL, gI_sD, gR_sI, gR_sA, gR_sQ, gR_sL, gR_sD, gA_sI, gA_sR, gA_sQ, gA_sL, gA_sD, gQ_sI, gQ_sR, gQ_sA, gQ_sL, gQ_sD, gL_sI, gL_sR, gL_sA, gL_sQ, gL_sD]; assumption) | simp [kd_sI, kd_sR, kd_sA, kd_sQ, kd_sL, kd_sD, ln_sI, ln_sR, ln_sA, ln_sQ, ln_sL, ln_sD, gI_sR, gI_sA, gI_sQ, gI_sL, gI_sD, gR_sI, gR_sA, gR_sQ, gR_sL, gR_sD, gA_sI, gA_sR, gA_sQ, gA_sL, gA_sD, gQ_sI, gQ_sR, gQ_sA, gQ_sL, gQ_sD, gL_sI, gL_sR, gL_sA, gL_sQ, gL_sD, kd_nO, kd_nA, *]) (T := TJ14) (N := 4) rfl (by first | assumption | omega) (by first | assumption | omega) (by first | assumption | omega) (Nat.le_of_ble_eq_true rfl) ?_
      refine s_hasNext hIt hCo2.2.2.2.1.1 hCo2.2.2.2.1.2.1 (by omega) (by omega) ?_
      rw [if_pos him]
      show AW mX2_leave G d Qr Qx _ _ H2 22 _ _
      have kc2 := hCo2.1.1
      have f272 := hCo2.1.2.2.2.2.2.2.2
      have kr2 := hCo2.2.2.2.1.1
      refine r_if_eq (tgt := 76) dX2_leave_22 (by decide) (fun h22 => ?_) (fun h22 => ?_)
      · refine r_aload_n (i := 1) dX2_leave_76 rfl rfl ?_
        refine r_getR dX2_leave_77 fR_X2_225 (by first | assumption | (simp only [kd_sI, kd_sR, kd_sA, kd_sQ, kd_sL, kd_sD, ln_sI, ln_sR, ln_sA, ln_sQ, ln_sL, ln_sD, gI_sR, gI_sA, gI_sQ, gI_sL, gI_sD, gR_sI, gR_sA, gR_sQ, gR_sL, gR_sD, gA_sI, gA_sR, gA_sQ, gA_sL, gA_sD, gQ_sI, gQ_sR, gQ_sA, gQ_sL, gQ_sD, gL_sI, gL_sR, gL_sA, gL_sQ, gL_sD]; assumption) | simp [kd_sI, kd_sR, kd_sA, kd_sQ, kd_sL, kd_sD, ln_sI, ln_sR, ln_sA, ln_sQ, ln_sL, ln_sD, gI_sR, gI_sA, gI_sQ, gI_sL, gI_sD, gR_sI, gR_sA, gR_sQ, gR_sL, gR_sD, gA_sI, gA_sR, gA_sQ, gA_sL, gA_sD, gQ_sI, gQ_sR, gQ_sA, gQ_sL, gQ_sD, gL_sI, gL_sR, gL_sA, gL_sQ, gL_sD, kd_nO, kd_nA, *]) (by first | assumption | exact gI_sIs | exact gR_sRs | with_reducible rfl | (simp only [kd_sI, kd_sR, kd_sA, kd_sQ, kd_sL, kd_sD, ln_sI, ln_sR, ln_sA, ln_sQ, ln_sL, ln_sD, gI_sR, gI_sA, gI_sQ, gI_sL, gI_sD, gR_sI, gR_sA, gR_sQ, gR_sL, gR_sD, gA_sI, gA_sR, gA_sQ, gA_sL, gA_sD, gQ_sI, gQ_sR, gQ_sA, gQ_sL, gQ_sD, gL_sI, gL_sR, gL_sA, gL_sQ, gL_sD]; first | done | assumption | with_reducible rfl) | rfl) ?_
        refine r_callV (As := []) (mc' := 0) (ms' := 0) dX2_leave_80 k_X2_262 rfl (by first | assumption | (simp only [kd_sI, kd_sR, kd_sA, kd_sQ, kd_sL, kd_sD, ln_sI, ln_sR, ln_sA, ln_sQ, ln_sL, ln_sD, gI_sR, gI_sA, gI_sQ, gI_sL, gI_sD, gR_sI, gR_sA, gR_sQ, gR_sL, gR_sD, gA_sI, gA_sR, gA_sQ, gA_sL, gA_sD, gQ_sI, gQ_sR, gQ_sA, gQ_sL, gQ_sD, gL_sI, gL_sR, gL_sA, gL_sQ, gL_sD]; assumption) | simp [kd_sI, kd_sR, kd_sA, kd_sQ, kd_sL, kd_sD, ln_sI, ln_sR, ln_sA, ln_sQ, ln_sL, ln_sD, gI_sR, gI_sA, gI_sQ, gI_sL, gI_sD, gR_sI, gR_sA, gR_sQ, gR_sL, gR_sD, gA_sI, gA_sR, gA_sQ, gA_sL, gA_sD, gQ_sI, gQ_sR, gQ_sA, gQ_sL, gQ_sD, gL_sI, gL_sR, gL_sA, gL_sQ, gL_sD, kd_nO, kd_nA, *]) (T := TJ2) (N := 3) rfl (by first | assumption | omega) (by first | assumption | omega) (by first | assumption | omega) (Nat.le_of_ble_eq_true rfl) ?_
        refine s_lsClear hCo2.2.2.2.1 (by omega) (fun H3 hK3 hL3 => ?_)
        refine AW.st0 (fun z3 => ?_)
        have nsl := sl_ne hCo2.2.2.2.1 z2
        have ec := hK3.at (a := ca c) (by rw [kc2]; decide) (nsl _ (by rw [kc2]; decide) (by rw [kc2]; decide) (by rw [kc2]; decide))
        have kc3 : kd H3 (ca c) = 4 := by rw [at_kd ec]; exact kc2
        show AW mX2_leave G d Qr Qx _ _ H3 83 _ _
        refine r_aload_n (i := 1) dX2_leave_83 rfl rfl ?_
        refine r_iconst (v := nI 0) dX2_leave_84 (by decide) ?_
        refine r_putI dX2_leave_85 fG_X2_211 (fun _ => by first | rfl | contradiction) (by first | assumption | (simp only [kd_sI, kd_sR, kd_sA, kd_sQ, kd_sL, kd_sD, ln_sI, ln_sR, ln_sA, ln_sQ, ln_sL, ln_sD, gI_sR, gI_sA, gI_sQ, gI_sL, gI_sD, gR_sI, gR_sA, gR_sQ, gR_sL, gR_sD, gA_sI, gA_sR, gA_sQ, gA_sL, gA_sD, gQ_sI, gQ_sR, gQ_sA, gQ_sL, gQ_sD, gL_sI, gL_sR, gL_sA, gL_sQ, gL_sD]; assumption) | simp [kd_sI, kd_sR, kd_sA, kd_sQ, kd_sL, kd_sD, ln_sI, ln_sR, ln_sA, ln_sQ, ln_sL, ln_sD, gI_sR, gI_sA, gI_sQ, gI_sL, gI_sD, gR_sI, gR_sA, gR_sQ, gR_sL, gR_sD, gA_sI, gA_sR, gA_sQ, gA_sL, gA_sD, gQ_sI, gQ_sR, gQ_sA, gQ_sL, gQ_sD, gL_sI, gL_sR, gL_sA, gL_sQ, gL_sD, kd_nO, kd_nA, *]) (by first | rfl | assumption) (by first | rfl | assumption) ?_
        refine r_aload_n (i := 1) dX2_leave_88 rfl rfl ?_
        refine r_iconst (v := -1) dX2_leave_89 (by decide) ?_
        refine r_putI dX2_leave_90 fG_X2_265 (fun _ => by first | rfl | contradiction) (by first | assumption | (simp only [kd_sI, kd_sR, kd_sA, kd_sQ, kd_sL, kd_sD, ln_sI, ln_sR, ln_sA, ln_sQ, ln_sL, ln_sD, gI_sR, gI_sA, gI_sQ, gI_sL, gI_sD, gR_sI, gR_sA, gR_sQ, gR_sL, gR_sD, gA_sI, gA_sR, gA_sQ, gA_sL, gA_sD, gQ_sI, gQ_sR, gQ_sA, gQ_sL, gQ_sD, gL_sI, gL_sR, gL_sA, gL_sQ, gL_sD]; assumption) | simp [kd_sI, kd_sR, kd_sA, kd_sQ, kd_sL, kd_sD, ln_sI, ln_sR, ln_sA, ln_sQ, ln_sL, ln_sD, gI_sR, gI_sA, gI_sQ, gI_sL, gI_sD, gR_sI, gR_sA, gR_sQ, gR_sL, gR_sD, gA_sI, gA_sR, gA_sQ, gA_sL, gA_sD, gQ_sI, gQ_sR, gQ_sA, gQ_sL, gQ_sD, gL_sI, gL_sR, gL_sA, gL_sQ, gL_sD, kd_nO, kd_nA, *]) (by first | rfl | assumption) (by first | rfl | assumption) ?_
        refine r_aload_n (i := 1) dX2_leave_93 rfl rfl ?_
        refine r_iconst (v := nI 0) dX2_leave_94 (by decide) ?_
        refine r_putI dX2_leave_95 fG_X2_268 (fun _ => by first | rfl | contradiction) (by first | assumption | (simp only [kd_sI, kd_sR, kd_sA, kd_sQ, kd_sL, kd_sD, ln_sI, ln_sR, ln_sA, ln_sQ, ln_sL, ln_sD, gI_sR, gI_sA, gI_sQ, gI_sL, gI_sD, gR_sI, gR_sA, gR_sQ, gR_sL, gR_sD, gA_sI, gA_sR, gA_sQ, gA_sL, gA_sD, gQ_sI, gQ_sR, gQ_sA, gQ_sL, gQ_sD, gL_sI, gL_sR, gL_sA, gL_sQ, gL_sD]; assumption) | simp [kd_sI, kd_sR, kd_sA, kd_sQ, kd_sL, kd_sD, ln_sI, ln_sR, ln_sA, ln_sQ, ln_sL, ln_sD, gI_sR, gI_sA, gI_sQ, gI_sL, gI_sD, gR_sI, gR_sA, gR_sQ, gR_sL, gR_sD, gA_sI, gA_sR, gA_sQ, gA_sL, gA_sD, gQ_sI, gQ_sR, gQ_sA, gQ_sL, gQ_sD, gL_sI, gL_sR, gL_sA, gL_sQ, gL_sD, kd_nO, kd_nA, *]) (by first | rfl | assumption) (by first | rfl | assumption) ?_
        refine AW.name (fun H4 hH4 => ?_)
        refine AW.st0 (fun z4 => ?_)
        have hK4 : Ks (fun b => b = ca c) H3 H4 := by rw [hH4]; exact (((Ks.rf (S := fun b => b = ca c)).sI (fun _ => rfl)).sI (fun _ => rfl)).sI (fun _ => rfl)
        have hK24 : Ks (CaA (ca c) (rl c) (re c)) H2 H4 := (hK3.mono (fun b _ q => q.elim (fun e => Or.inr (Or.inl e)) (fun e => Or.inr (Or.inr e)))).tr (hK4.mono (fun b _ e => Or.inl e))
        have nrl : ¬ rl c = ca c := fun e => by rw [e, kc2] at kr2; omega
        have nre : kd H3 (re c) = 4096 → ¬ re c = ca c := fun k e => by rw [e, kc3] at k; omega
        have hT4 : CaO G H4 (ca c) (rl c) (re c) (st c) 0 (cvOf (leavesG g c) c) := by
          obtain ⟨⟨a1, a2, a3, a4, a5, a6, a7, a8⟩, a9, a10, a11, a12⟩ := hCo2
          have eV : ∀ k, k < 3 → cvOf (leavesG g c) c k = cvOf g c k := fun k hk => by unfold cvOf; exact out _ (by omega)
          refine ⟨⟨hK4.kk kc3 (by decide), ?_, ?_, ?_, ?_, ?_, ?_, ?_⟩, ?_, by omega, hL3.ks hK4 nrl nre, fun j hj => absurd hj (by omega)⟩
          · rw [hH4, gI_sIn (by decide), gI_sIn (by decide), gI_sIn (by decide), at_gI ec, eV 0 (by decide)]; exact a2
          · rw [hH4, gI_sIn (by decide), gI_sIn (by decide), gI_sIn (by decide), at_gI ec, eV 1 (by decide)]; exact a3
          · rw [hH4, gI_sIn (by decide), gI_sIn (by decide), gI_sIn (by decide), at_gI ec, eV 2 (by decide)]; exact a4
          · rw [hH4, gI_sIn (by decide), gI_sIn (by decide), gI_sIs, cv_at c (105 + 21 * c) (by omega), v5]
          · rw [hH4, gI_sIs, cv_at c (107 + 21 * c) (by omega), v7]
          · rw [hH4, gI_sIn (by decide), gI_sIs, cv_at c (108 + 21 * c) (by omega), v8]
          · rw [hH4, gR_sI, gR_sI, gR_sI, at_gR ec]; exact a8
          · rw [cv_at c (106 + 21 * c) (by omega), v6]
        obtain ⟨q1, q2⟩ := hC2.set (v := cvOf (leavesG g c) c) (k := 0) z2 hc (by omega) hK24 z4 (by rw [cv_at c (106 + 21 * c) (by omega), v6]; rfl) hT4 (Or.inl rfl) (fun j hj => absurd hj (by omega))
        have q2' := q2.to (cv' := cvOf (leavesG g c)) (fun c' k hc' hk => by
          by_cases e : c' = c
          · rw [e, upA_n]
          · rw [upA_i e]
            unfold cvOf
            exact out _ (by omega))
        have q3 := hT2.ks q1 (fun b _ e => by omega)
        have q3' := q3.to (tv' := tvOf (leavesG g c)) (fun x hx => by
          unfold tvL
          rw [him, ← hm, ← stepsL_len (g := g) (c := c), List.take_length]
          by_cases e : x ∈ stepsL g c
          · rw [if_pos e]
          · rw [if_neg e]
            refine tv_leave_out hB hc hx (fun j hj e9 => e ?_)
            rw [← e9, ← stepsL_at hj]
            exact getD_mem (by rw [stepsL_len]; exact hj))
        have k24 : ∀ b, kd H2 b ≠ 0 → CaA (ca c) (rl c) (re c) b → KLay (kd H2 b) := fun b hb q => by
          rcases q with q | q | q
          · rw [q, kc2]; exact ⟨by decide, by decide, by decide, by decide⟩
          · rw [q, kr2]; exact ⟨by decide, by decide, by decide, by decide⟩
          · refine ⟨fun e => ?_, fun e => ?_, fun e => ?_, fun e => ?_⟩ <;> exact nsl b (by rw [e]; decide) (by rw [e]; decide) hb (Or.inr q)
        have hs0 : Stq G (fun b => O b = 8 * t + 3 ∨ O b = 8 * t + 4) H O H2 O1 := (s1.mono (fun _ _ h => h.elim)).tr2 hs (fun b hb e => by
          rcases e with e | e
          · rw [s1.2.1 b hb] at e
            exact Or.inl e
          · rw [e] at hb
            exact absurd hit hb)
        refine r_iload_n (i := 2) dX2_leave_98 rfl rfl ?_
        refine r_ireturn dX2_leave_99 rfl (by first | rfl | assumption | exact vp_nar_int _ | exact pk_nc _) ?_
        exact hQ H4 _ (hs0.tr2 q1 (fun b hb e => by rw [hs0.2.1 b hb] at e; exact Or.inr e)) (hK.kds hK24 k24) q3' ⟨_, _, q2'⟩
      · exact absurd rfl h22
    | succ k ih =>
      intro i rc rs H2 l4 hi hs hK hIt hT2
      have z2 := hs.2.2
      have hC2 := C1.ks hs (fun b _ e => by
        rcases e with e | e
        · omega
        · rw [e]; omega)
      have hCo2 := (hC2.2.2.2.1 c hc).1
      rw [e4] at hCo2
      have him : i < m := by omega
      have ki := hIt.1
      refine r_aload_n (i := 3) dX2_leave_16 rfl rfl ?_
      refine r_callF (As := []) (mc' := 0) (ms' := 0) dX2_leave_17 k_X2_46_J14 rfl (by first | assumption | (simp only [kd_sI, kd_sR, kd_sA, kd_sQ, kd_sL, kd_sD, ln_sI, ln_sR, ln_sA, ln_sQ, ln_sL, ln_sD, gI_sR, gI_sA, gI_sQ, gI_sL, gI_sD, gR_sI, gR_sA, gR_sQ, gR_sL, gR_sD, gA_sI, gA_sR, gA_sQ, gA_sL, gA_sD, gQ_sI, gQ_sR, gQ_sA, gQ_sL, gQ_sD, gL_sI, gL_sR, gL_sA, gL_sQ, gL_sD]; assumption) | simp [kd_sI, kd_sR, kd_sA, kd_sQ, kd_sL, kd_sD, ln_sI, ln_sR, ln_sA, ln_sQ, ln_sL, ln_sD, gI_sR, gI_sA, gI_sQ, gI_sL, gI_sD, gR_sI, gR_sA, gR_sQ, gR_sL, gR_sD, gA_sI, gA_sR, gA_sQ, gA_sL, gA_sD, gQ_sI, gQ_sR, gQ_sA, gQ_sL, gQ_sD, gL_sI, gL_sR, gL_sA, gL_sQ, gL_sD, kd_nO, kd_nA, *]) (T := TJ14) (N := 4) rfl (by first | assumption | omega) (by first | assumption | omega) (by first | assumption | omega) (Nat.le_of_ble_eq_true rfl) ?_
      refine s_hasNext hIt hCo2.2.2.2.1.1 hCo2.2.2.2.1.2.1 (by omega) (by omega) ?_
      rw [if_neg (by omega)]
      show AW mX2_leave G d Qr Qx _ _ H2 22 _ _
      refine r_if_eq (tgt := 76) dX2_leave_22 (by decide) (fun h22 => ?_) (fun h22 => ?_)
      · exact absurd (show (nI 1 : Int32) = 0 by simpa using h22) (by decide)
      · refine r_aload_n (i := 3) dX2_leave_25 rfl rfl ?_
        refine r_callF (As := []) (mc' := 0) (ms' := 0) dX2_leave_26 k_X2_52_J14 rfl (by first | assumption | (simp only [kd_sI, kd_sR, kd_sA, kd_sQ, kd_sL, kd_sD, ln_sI, ln_sR, ln_sA, ln_sQ, ln_sL, ln_sD, gI_sR, gI_sA, gI_sQ, gI_sL, gI_sD, gR_sI, gR_sA, gR_sQ, gR_sL, gR_sD, gA_sI, gA_sR, gA_sQ, gA_sL, gA_sD, gQ_sI, gQ_sR, gQ_sA, gQ_sL, gQ_sD, gL_sI, gL_sR, gL_sA, gL_sQ, gL_sD]; assumption) | simp [kd_sI, kd_sR, kd_sA, kd_sQ, kd_sL, kd_sD, ln_sI, ln_sR, ln_sA, ln_sQ, ln_sL, ln_sD, gI_sR, gI_sA, gI_sQ, gI_sL, gI_sD, gR_sI, gR_sA, gR_sQ, gR_sL, gR_sD, gA_sI, gA_sR, gA_sQ, gA_sL, gA_sD, gQ_sI, gQ_sR, gQ_sA, gQ_sL, gQ_sD, gL_sI, gL_sR, gL_sA, gL_sQ, gL_sD, kd_nO, kd_nA, *]) (T := TJ14) (N := 4) rfl (by first | assumption | omega) (by first | assumption | omega) (by first | assumption | omega) (Nat.le_of_ble_eq_true rfl) ?_
        refine s_next (by omega) hIt hCo2.2.2.2.1 him (by omega) (fun H3 hK3 hIt3 => ?_)
        refine AW.st0 (fun z3 => ?_)
        have st3 : Stq G (fun b => b = it) H2 O1 H3 O1 := Stq.of hK3 z3
        have hs3 := hs.tr2 st3 (fun b _ e => Or.inr e)
        have hk3 := hK.tr2 hK3 (fun b hb e => by rw [e] at hb; exact absurd hit hb)
        have C3 := hC2.ks st3 (fun b _ e => by rw [e]; omega)
        have T3 := hT2.ks st3 (fun b _ e => by rw [e]; omega)
        have P3 := P1.ks hs3 (fun b _ e => by
          rcases e with e | e
          · omega
          · rw [e]; omega)
        have Y3 := hY.1
        have hCo3 := (C3.2.2.2.1 c hc).1
        rw [e4] at hCo3
        obtain ⟨⟨p1, p8, p9, p10, p11, p12, p13, p14, p15⟩, pO⟩ := P3
        obtain ⟨b1, b2, b3⟩ := hCo3.2.2.2.2 i him
        obtain ⟨t1, t2⟩ := (hB.2.2.2.2.2 c hc).2.2 i (by omega)
        obtain ⟨u, hu⟩ : ∃ u, nat g (109 + 21 * c + i) = u := ⟨_, rfl⟩
        rw [hu] at t1 t2
        have k1 := hGR.2.2 i (by omega)
        obtain ⟨k0, hk0⟩ : ∃ k0, nat g (116 + 21 * c + i) = k0 := ⟨_, rfl⟩
        have k11 := k1.1
        have k12 := k1.2
        rw [hk0] at k11
        rw [hk0, hu] at k12
        have b2' : gI H3 33 (st c i) = nI u := by rw [b2, cv_at c (109 + 21 * c + i) (by omega), t1]
        have b3' : gI H3 34 (st c i) = nI k0 := by rw [b3, cv_at c (116 + 21 * c + i) (by omega), k11]
        have kT3 := T3.1.1
        have kc3 := hCo3.1.1
        have f23 : gI H3 23 (ca c) = nI y := hCo3.1.2.1.trans e0
        show AW mX2_leave G d Qr Qx _ _ H3 31 _ _
        refine r_cast dX2_leave_31 (by first | assumption | (simp only [kd_sI, kd_sR, kd_sA, kd_sQ, kd_sL, kd_sD, ln_sI, ln_sR, ln_sA, ln_sQ, ln_sL, ln_sD, gI_sR, gI_sA, gI_sQ, gI_sL, gI_sD, gR_sI, gR_sA, gR_sQ, gR_sL, gR_sD, gA_sI, gA_sR, gA_sQ, gA_sL, gA_sD, gQ_sI, gQ_sR, gQ_sA, gQ_sL, gQ_sD, gL_sI, gL_sR, gL_sA, gL_sQ, gL_sD]; assumption) | simp [kd_sI, kd_sR, kd_sA, kd_sQ, kd_sL, kd_sD, ln_sI, ln_sR, ln_sA, ln_sQ, ln_sL, ln_sD, gI_sR, gI_sA, gI_sQ, gI_sL, gI_sD, gR_sI, gR_sA, gR_sQ, gR_sL, gR_sD, gA_sI, gA_sR, gA_sQ, gA_sL, gA_sD, gQ_sI, gQ_sR, gQ_sA, gQ_sL, gQ_sD, gL_sI, gL_sR, gL_sA, gL_sQ, gL_sD, kd_nO, kd_nA, *]) (T := TX7) (N := 2) rfl q1231 (Or.inl rfl) ?_
        refine r_astore dX2_leave_34 (Nat.le_of_ble_eq_true rfl) (by simp only [lset]; rfl) ?_
        refine r_aload_n (i := 0) dX2_leave_36 rfl rfl ?_
        refine r_getR dX2_leave_37 fR_X2_25 (by first | assumption | (simp only [kd_sI, kd_sR, kd_sA, kd_sQ, kd_sL, kd_sD, ln_sI, ln_sR, ln_sA, ln_sQ, ln_sL, ln_sD, gI_sR, gI_sA, gI_sQ, gI_sL, gI_sD, gR_sI, gR_sA, gR_sQ, gR_sL, gR_sD, gA_sI, gA_sR, gA_sQ, gA_sL, gA_sD, gQ_sI, gQ_sR, gQ_sA, gQ_sL, gQ_sD, gL_sI, gL_sR, gL_sA, gL_sQ, gL_sD]; assumption) | simp [kd_sI, kd_sR, kd_sA, kd_sQ, kd_sL, kd_sD, ln_sI, ln_sR, ln_sA, ln_sQ, ln_sL, ln_sD, gI_sR, gI_sA, gI_sQ, gI_sL, gI_sD, gR_sI, gR_sA, gR_sQ, gR_sL, gR_sD, gA_sI, gA_sR, gA_sQ, gA_sL, gA_sD, gQ_sI, gQ_sR, gQ_sA, gQ_sL, gQ_sD, gL_sI, gL_sR, gL_sA, gL_sQ, gL_sD, kd_nO, kd_nA, *]) (by first | assumption | exact gI_sIs | exact gR_sRs | with_reducible rfl | (simp only [kd_sI, kd_sR, kd_sA, kd_sQ, kd_sL, kd_sD, ln_sI, ln_sR, ln_sA, ln_sQ, ln_sL, ln_sD, gI_sR, gI_sA, gI_sQ, gI_sL, gI_sD, gR_sI, gR_sA, gR_sQ, gR_sL, gR_sD, gA_sI, gA_sR, gA_sQ, gA_sL, gA_sD, gQ_sI, gQ_sR, gQ_sA, gQ_sL, gQ_sD, gL_sI, gL_sR, gL_sA, gL_sQ, gL_sD]; first | done | assumption | with_reducible rfl) | rfl) ?_
        refine r_aload dX2_leave_40 rfl ?_
        refine r_getI dX2_leave_42 fR_X2_254 (by first | assumption | (simp only [kd_sI, kd_sR, kd_sA, kd_sQ, kd_sL, kd_sD, ln_sI, ln_sR, ln_sA, ln_sQ, ln_sL, ln_sD, gI_sR, gI_sA, gI_sQ, gI_sL, gI_sD, gR_sI, gR_sA, gR_sQ, gR_sL, gR_sD, gA_sI, gA_sR, gA_sQ, gA_sL, gA_sD, gQ_sI, gQ_sR, gQ_sA, gQ_sL, gQ_sD, gL_sI, gL_sR, gL_sA, gL_sQ, gL_sD]; assumption) | simp [kd_sI, kd_sR, kd_sA, kd_sQ, kd_sL, kd_sD, ln_sI, ln_sR, ln_sA, ln_sQ, ln_sL, ln_sD, gI_sR, gI_sA, gI_sQ, gI_sL, gI_sD, gR_sI, gR_sA, gR_sQ, gR_sL, gR_sD, gA_sI, gA_sR, gA_sQ, gA_sL, gA_sD, gQ_sI, gQ_sR, gQ_sA, gQ_sL, gQ_sD, gL_sI, gL_sR, gL_sA, gL_sQ, gL_sD, kd_nO, kd_nA, *]) (by first | assumption | exact gI_sIs | exact gR_sRs | with_reducible rfl | (simp only [kd_sI, kd_sR, kd_sA, kd_sQ, kd_sL, kd_sD, ln_sI, ln_sR, ln_sA, ln_sQ, ln_sL, ln_sD, gI_sR, gI_sA, gI_sQ, gI_sL, gI_sD, gR_sI, gR_sA, gR_sQ, gR_sL, gR_sD, gA_sI, gA_sR, gA_sQ, gA_sL, gA_sD, gQ_sI, gQ_sR, gQ_sA, gQ_sL, gQ_sD, gL_sI, gL_sR, gL_sA, gL_sQ, gL_sD]; first | done | assumption | with_reducible rfl) | rfl) ?_
        refine r_callV (As := [_]) (mc' := 0) (ms' := 0) dX2_leave_45 k_X2_110 rfl (by first | assumption | (simp only [kd_sI, kd_sR, kd_sA, kd_sQ, kd_sL, kd_sD, ln_sI, ln_sR, ln_sA, ln_sQ, ln_sL, ln_sD, gI_sR, gI_sA, gI_sQ, gI_sL, gI_sD, gR_sI, gR_sA, gR_sQ, gR_sL, gR_sD, gA_sI, gA_sR, gA_sQ, gA_sL, gA_sD, gQ_sI, gQ_sR, gQ_sA, gQ_sL, gQ_sD, gL_sI, gL_sR, gL_sA, gL_sQ, gL_sD]; assumption) | simp [kd_sI, kd_sR, kd_sA, kd_sQ, kd_sL, kd_sD, ln_sI, ln_sR, ln_sA, ln_sQ, ln_sL, ln_sD, gI_sR, gI_sA, gI_sQ, gI_sL, gI_sD, gR_sI, gR_sA, gR_sQ, gR_sL, gR_sD, gA_sI, gA_sR, gA_sQ, gA_sL, gA_sD, gQ_sI, gQ_sR, gQ_sA, gQ_sL, gQ_sD, gL_sI, gL_sR, gL_sA, gL_sQ, gL_sD, kd_nO, kd_nA, *]) (T := TJ2) (N := 3) rfl (by first | assumption | omega) (by first | assumption | omega) (by first | assumption | omega) (Nat.le_of_ble_eq_true rfl) ?_
        refine s_get (by omega) T3.1 t2 (by omega) ?_
        have hTu := (T3.2.2.2.1 u t2).1
        have hil : i < (stepsL g c).length := by rw [stepsL_len]; omega
        have etv : tvL g (leavesG g c) (stepsL g c) i u = tvOf g u := by
          unfold tvL
          rw [if_neg (by rw [← hu, ← stepsL_at (g := g) (c := c) (by omega)]; exact tk2 hGR.2.1 hil)]
        rw [etv] at hTu
        have kTu : kd H3 (tr u) = 3 := hTu.1
        have Y4 := Y1.ks hs3 (fun b _ e => by
          rcases e with e | e
          · exact ⟨by omega, by omega, fun h => by omega⟩
          · rw [e]
            exact ⟨by omega, by omega, fun h => by omega⟩)
        have kyL := Y4.1.1
        obtain ⟨kA, kA2, kA3, kA4⟩ := (Y4.2.2.2.2.2 y hy3).1
        show AW mX2_leave G d Qr Qx _ _ H3 48 _ _
        refine r_cast dX2_leave_48 (by first | assumption | (simp only [kd_sI, kd_sR, kd_sA, kd_sQ, kd_sL, kd_sD, ln_sI, ln_sR, ln_sA, ln_sQ, ln_sL, ln_sD, gI_sR, gI_sA, gI_sQ, gI_sL, gI_sD, gR_sI, gR_sA, gR_sQ, gR_sL, gR_sD, gA_sI, gA_sR, gA_sQ, gA_sL, gA_sD, gQ_sI, gQ_sR, gQ_sA, gQ_sL, gQ_sD, gL_sI, gL_sR, gL_sA, gL_sQ, gL_sD]; assumption) | simp [kd_sI, kd_sR, kd_sA, kd_sQ, kd_sL, kd_sD, ln_sI, ln_sR, ln_sA, ln_sQ, ln_sL, ln_sD, gI_sR, gI_sA, gI_sQ, gI_sL, gI_sD, gR_sI, gR_sA, gR_sQ, gR_sL, gR_sD, gA_sI, gA_sR, gA_sQ, gA_sL, gA_sD, gQ_sI, gQ_sR, gQ_sA, gQ_sL, gQ_sD, gL_sI, gL_sR, gL_sA, gL_sQ, gL_sD, kd_nO, kd_nA, *]) (T := TX4) (N := 7) rfl q1233 (Or.inl rfl) ?_
        refine r_aload_n (i := 0) dX2_leave_51 rfl rfl ?_
        refine r_getR dX2_leave_52 fR_X2_12 (by first | assumption | (simp only [kd_sI, kd_sR, kd_sA, kd_sQ, kd_sL, kd_sD, ln_sI, ln_sR, ln_sA, ln_sQ, ln_sL, ln_sD, gI_sR, gI_sA, gI_sQ, gI_sL, gI_sD, gR_sI, gR_sA, gR_sQ, gR_sL, gR_sD, gA_sI, gA_sR, gA_sQ, gA_sL, gA_sD, gQ_sI, gQ_sR, gQ_sA, gQ_sL, gQ_sD, gL_sI, gL_sR, gL_sA, gL_sQ, gL_sD]; assumption) | simp [kd_sI, kd_sR, kd_sA, kd_sQ, kd_sL, kd_sD, ln_sI, ln_sR, ln_sA, ln_sQ, ln_sL, ln_sD, gI_sR, gI_sA, gI_sQ, gI_sL, gI_sD, gR_sI, gR_sA, gR_sQ, gR_sL, gR_sD, gA_sI, gA_sR, gA_sQ, gA_sL, gA_sD, gQ_sI, gQ_sR, gQ_sA, gQ_sL, gQ_sD, gL_sI, gL_sR, gL_sA, gL_sQ, gL_sD, kd_nO, kd_nA, *]) (by first | assumption | exact gI_sIs | exact gR_sRs | with_reducible rfl | (simp only [kd_sI, kd_sR, kd_sA, kd_sQ, kd_sL, kd_sD, ln_sI, ln_sR, ln_sA, ln_sQ, ln_sL, ln_sD, gI_sR, gI_sA, gI_sQ, gI_sL, gI_sD, gR_sI, gR_sA, gR_sQ, gR_sL, gR_sD, gA_sI, gA_sR, gA_sQ, gA_sL, gA_sD, gQ_sI, gQ_sR, gQ_sA, gQ_sL, gQ_sD, gL_sI, gL_sR, gL_sA, gL_sQ, gL_sD]; first | done | assumption | with_reducible rfl) | rfl) ?_
        refine r_aload_n (i := 1) dX2_leave_55 rfl rfl ?_
        refine r_getI dX2_leave_56 fR_X2_235 (by first | assumption | (simp only [kd_sI, kd_sR, kd_sA, kd_sQ, kd_sL, kd_sD, ln_sI, ln_sR, ln_sA, ln_sQ, ln_sL, ln_sD, gI_sR, gI_sA, gI_sQ, gI_sL, gI_sD, gR_sI, gR_sA, gR_sQ, gR_sL, gR_sD, gA_sI, gA_sR, gA_sQ, gA_sL, gA_sD, gQ_sI, gQ_sR, gQ_sA, gQ_sL, gQ_sD, gL_sI, gL_sR, gL_sA, gL_sQ, gL_sD]; assumption) | simp [kd_sI, kd_sR, kd_sA, kd_sQ, kd_sL, kd_sD, ln_sI, ln_sR, ln_sA, ln_sQ, ln_sL, ln_sD, gI_sR, gI_sA, gI_sQ, gI_sL, gI_sD, gR_sI, gR_sA, gR_sQ, gR_sL, gR_sD, gA_sI, gA_sR, gA_sQ, gA_sL, gA_sD, gQ_sI, gQ_sR, gQ_sA, gQ_sL, gQ_sD, gL_sI, gL_sR, gL_sA, gL_sQ, gL_sD, kd_nO, kd_nA, *]) (by first | assumption | exact gI_sIs | exact gR_sRs | with_reducible rfl | (simp only [kd_sI, kd_sR, kd_sA, kd_sQ, kd_sL, kd_sD, ln_sI, ln_sR, ln_sA, ln_sQ, ln_sL, ln_sD, gI_sR, gI_sA, gI_sQ, gI_sL, gI_sD, gR_sI, gR_sA, gR_sQ, gR_sL, gR_sD, gA_sI, gA_sR, gA_sQ, gA_sL, gA_sD, gQ_sI, gQ_sR, gQ_sA, gQ_sL, gQ_sD, gL_sI, gL_sR, gL_sA, gL_sQ, gL_sD]; first | done | assumption | with_reducible rfl) | rfl) ?_
        refine r_callV (As := [_]) (mc' := 0) (ms' := 0) dX2_leave_59 k_X2_110 rfl (by first | assumption | (simp only [kd_sI, kd_sR, kd_sA, kd_sQ, kd_sL, kd_sD, ln_sI, ln_sR, ln_sA, ln_sQ, ln_sL, ln_sD, gI_sR, gI_sA, gI_sQ, gI_sL, gI_sD, gR_sI, gR_sA, gR_sQ, gR_sL, gR_sD, gA_sI, gA_sR, gA_sQ, gA_sL, gA_sD, gQ_sI, gQ_sR, gQ_sA, gQ_sL, gQ_sD, gL_sI, gL_sR, gL_sA, gL_sQ, gL_sD]; assumption) | simp [kd_sI, kd_sR, kd_sA, kd_sQ, kd_sL, kd_sD, ln_sI, ln_sR, ln_sA, ln_sQ, ln_sL, ln_sD, gI_sR, gI_sA, gI_sQ, gI_sL, gI_sD, gR_sI, gR_sA, gR_sQ, gR_sL, gR_sD, gA_sI, gA_sR, gA_sQ, gA_sL, gA_sD, gQ_sI, gQ_sR, gQ_sA, gQ_sL, gQ_sD, gL_sI, gL_sR, gL_sA, gL_sQ, gL_sD, kd_nO, kd_nA, *]) (T := TJ2) (N := 3) rfl (by first | assumption | omega) (by first | assumption | omega) (by first | assumption | omega) (Nat.le_of_ble_eq_true rfl) ?_
        refine s_get (by omega) Y4.1 hy3 (by omega) ?_
        show AW mX2_leave G d Qr Qx _ _ H3 62 _ _
        refine r_cast dX2_leave_62 (by first | assumption | (simp only [kd_sI, kd_sR, kd_sA, kd_sQ, kd_sL, kd_sD, ln_sI, ln_sR, ln_sA, ln_sQ, ln_sL, ln_sD, gI_sR, gI_sA, gI_sQ, gI_sL, gI_sD, gR_sI, gR_sA, gR_sQ, gR_sL, gR_sD, gA_sI, gA_sR, gA_sQ, gA_sL, gA_sD, gQ_sI, gQ_sR, gQ_sA, gQ_sL, gQ_sD, gL_sI, gL_sR, gL_sA, gL_sQ, gL_sD]; assumption) | simp [kd_sI, kd_sR, kd_sA, kd_sQ, kd_sL, kd_sD, ln_sI, ln_sR, ln_sA, ln_sQ, ln_sL, ln_sD, gI_sR, gI_sA, gI_sQ, gI_sL, gI_sD, gR_sI, gR_sA, gR_sQ, gR_sL, gR_sD, gA_sI, gA_sR, gA_sQ, gA_sL, gA_sD, gQ_sI, gQ_sR, gQ_sA, gQ_sL, gQ_sD, gL_sI, gL_sR, gL_sA, gL_sQ, gL_sD, kd_nO, kd_nA, *]) (T := TX19) (N := 3) rfl q1254 (Or.inl rfl) ?_
        refine r_aload dX2_leave_65 rfl ?_
        refine r_getI dX2_leave_67 fR_X2_256 (by first | assumption | (simp only [kd_sI, kd_sR, kd_sA, kd_sQ, kd_sL, kd_sD, ln_sI, ln_sR, ln_sA, ln_sQ, ln_sL, ln_sD, gI_sR, gI_sA, gI_sQ, gI_sL, gI_sD, gR_sI, gR_sA, gR_sQ, gR_sL, gR_sD, gA_sI, gA_sR, gA_sQ, gA_sL, gA_sD, gQ_sI, gQ_sR, gQ_sA, gQ_sL, gQ_sD, gL_sI, gL_sR, gL_sA, gL_sQ, gL_sD]; assumption) | simp [kd_sI, kd_sR, kd_sA, kd_sQ, kd_sL, kd_sD, ln_sI, ln_sR, ln_sA, ln_sQ, ln_sL, ln_sD, gI_sR, gI_sA, gI_sQ, gI_sL, gI_sD, gR_sI, gR_sA, gR_sQ, gR_sL, gR_sD, gA_sI, gA_sR, gA_sQ, gA_sL, gA_sD, gQ_sI, gQ_sR, gQ_sA, gQ_sL, gQ_sD, gL_sI, gL_sR, gL_sA, gL_sQ, gL_sD, kd_nO, kd_nA, *]) (by first | assumption | exact gI_sIs | exact gR_sRs | with_reducible rfl | (simp only [kd_sI, kd_sR, kd_sA, kd_sQ, kd_sL, kd_sD, ln_sI, ln_sR, ln_sA, ln_sQ, ln_sL, ln_sD, gI_sR, gI_sA, gI_sQ, gI_sL, gI_sD, gR_sI, gR_sA, gR_sQ, gR_sL, gR_sD, gA_sI, gA_sR, gA_sQ, gA_sL, gA_sD, gQ_sI, gQ_sR, gQ_sA, gQ_sL, gQ_sD, gL_sI, gL_sR, gL_sA, gL_sQ, gL_sD]; first | done | assumption | with_reducible rfl) | rfl) ?_
        refine r_callV (As := [_, _]) (mc' := 0) (ms' := 0) dX2_leave_70 k_X2_259 rfl (by first | assumption | (simp only [kd_sI, kd_sR, kd_sA, kd_sQ, kd_sL, kd_sD, ln_sI, ln_sR, ln_sA, ln_sQ, ln_sL, ln_sD, gI_sR, gI_sA, gI_sQ, gI_sL, gI_sD, gR_sI, gR_sA, gR_sQ, gR_sL, gR_sD, gA_sI, gA_sR, gA_sQ, gA_sL, gA_sD, gQ_sI, gQ_sR, gQ_sA, gQ_sL, gQ_sD, gL_sI, gL_sR, gL_sA, gL_sQ, gL_sD]; assumption) | simp [kd_sI, kd_sR, kd_sA, kd_sQ, kd_sL, kd_sD, ln_sI, ln_sR, ln_sA, ln_sQ, ln_sL, ln_sD, gI_sR, gI_sA, gI_sQ, gI_sL, gI_sD, gR_sI, gR_sA, gR_sQ, gR_sL, gR_sD, gA_sI, gA_sR, gA_sQ, gA_sL, gA_sD, gQ_sI, gQ_sR, gQ_sA, gQ_sL, gQ_sD, gL_sI, gL_sR, gL_sA, gL_sQ, gL_sD, kd_nO, kd_nA, *]) (T := TX4) (N := 7) rfl (by first | assumption | omega) (by first | assumption | omega) (by first | assumption | omega) (Nat.le_of_ble_eq_true rfl) ?_
        refine c_leave hTu kA kA3 kA4 k12 (fun H4 hK4 hT4 => ?_)
        refine AW.st0 (fun z4 => ?_)
        have eu := tv_leave_in hI hc (i := i) (by omega)
        rw [hu, hk0, hy] at eu
        have eo : ∀ w, w < 5 → leavesG g c (41 + 5 * u + w) = g (41 + 5 * u + w) := fun w hw => out _ (by omega)
        have hT4' := hT4.to (w := tvOf (leavesG g c) u) (out (41 + 5 * u) (by omega)).symm (out (42 + 5 * u) (by omega)).symm (out (43 + 5 * u) (by omega)).symm (out (44 + 5 * u) (by omega)).symm (nat_eq (out (45 + 5 * u) (by omega))).symm (fun k hk => by
          have hk4 : k < 4 := by have := (hB.2.2.2.2.1 u t2).1.2; exact Nat.lt_of_lt_of_le hk (by show nat g (45 + 5 * u) ≤ 4; omega)
          obtain ⟨w1, w2, w3⟩ := eu k hk4
          exact ⟨w1.symm, w2.symm, w3.symm⟩)
        have hK34 : ∀ b, kd H3 b ≠ 0 → TrA (tc u) (tf u) (tu u) b → KLay (kd H3 b) := fun b _ q => by
          have := TrA_kd T3 t2 q
          unfold KLay
          omega
        obtain ⟨q1, q2⟩ := T3.set t2 hK4 z4 hT4'
        have q2' := q2.to (tv' := tvL g (leavesG g c) (stepsL g c) (i + 1)) (fun x _ => by rw [tvL_s hil, stepsL_at (by omega), hu])
        have hs4 := hs3.tr2 q1 (fun b hb e => Or.inl e)
        have hk4 := hk3.kds hK4 hK34
        have kit3 := hIt3.1
        have hIt4 : ItS H4 it (rl c) (i + 1) := hIt3.ks hK4 (fun q => by have := TrA_kd T3 t2 q; omega) (by rw [hCo3.2.2.2.1.1]; decide) (fun q => by have := TrA_kd T3 t2 q; have := hCo3.2.2.2.1.1; omega)
        show AW mX2_leave G d Qr Qx _ _ H4 73 _ _
        refine r_goto (tgt := 16) dX2_leave_73 (by decide) ?_
        exact ih (i + 1) _ _ H4 _ (by omega) hs4 hk4 hIt4 q2'
  exact loop m 0 _ _ H1 _ (by omega) ⟨Ks.rf, fun _ _ => rfl, z1⟩ kk1 hI1 (T1.to (fun x _ => by unfold tvL; rw [List.take_zero, if_neg (by simp)]))
end Chg
