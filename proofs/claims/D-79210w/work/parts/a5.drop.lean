set_option maxRecDepth 100000
/-! A TRAY IS DROPPED -/
theorem drop_v {g : Nat → Int32} {t : Nat} (hB : GB g) (ht : t < nat g 40) (h0 : q_set g (nI t) = 0) : nat (dropG g t) 40 = nat g 40 - 1 ∧ (∀ i, i < 40 → dropG g t i = g i) ∧ dropG g t 101 = g 101 ∧ (∀ i, 354 ≤ i → dropG g t i = g i) ∧ (∀ s w, s < nat g 40 → s ≠ t → w < 5 → dropG g t (41 + 5 * dn t s + w) = g (41 + 5 * s + w)) ∧ (∀ c w, c < nat g 101 → w < 21 → (w < 7 ∨ 14 ≤ w) → dropG g t (102 + 21 * c + w) = g (102 + 21 * c + w)) ∧ ∀ c k, c < nat g 101 → k < nat g (106 + 21 * c) → nat g (109 + 21 * c + k) < nat g 40 ∧ nat g (109 + 21 * c + k) ≠ t ∧ dropG g t (109 + 21 * c + k) = nI (dn t (nat g (109 + 21 * c + k))) := by
  have hfree := drop_free hB h0
  have i1' := hB
  obtain ⟨G, hG⟩ := ex_val (dropG g t)
  rw [← hG]
  obtain ⟨b1, b2, b3, b4, b5, b6⟩ := hB
  have hC2 := b3.2
  have hR2 := b2.2
  obtain ⟨R, hR⟩ := ex_val (nat g 40)
  rw [← hR] at ht hR2
  unfold dropG at hG
  rw [← hR] at hG
  have v40 : G 40 = nI (R - 1) := by rw [hG]; unfold dropF; rw [if_pos rfl, hR]
  have n40 : nat G 40 = R - 1 := (isN_of (b := 20) v40 (by omega) (by omega)).2
  have low : ∀ i, i ≠ 40 → i < 41 + 5 * t → G i = g i := by
    intro i h1 h2
    rw [hG]; unfold dropF
    rw [if_neg h1, if_neg (by omega), if_neg (fun q => by
      obtain ⟨q1, -⟩ := q
      unfold stepIx at q1
      rw [decide_eq_true_iff] at q1
      omega)]
  have sh : ∀ i, 41 + 5 * t ≤ i → i < 41 + 5 * (R - 1) → G i = g (i + 5) := by
    intro i h1 h2
    rw [hG]; unfold dropF
    rw [if_neg (by omega), if_pos ⟨h1, h2⟩]
  have nos : ∀ i, 101 ≤ i → stepIx g i = false → G i = g i := by
    intro i h1 h2
    rw [hG]; unfold dropF
    rw [if_neg (by omega), if_neg (by omega), if_neg (fun q => by rw [h2] at q; exact absurd q.1 (by decide))]
  have cw : ∀ c w, c < nat g 101 → w < 21 → (w < 7 ∨ 14 ≤ w) → G (102 + 21 * c + w) = g (102 + 21 * c + w) := by
    intro c w hc hw h7
    refine nos _ (by omega) ?_
    rw [stepIx_of i1' hc hw]
    have := (b6 c hc).2.1.2
    rw [decide_eq_false]
    omega
  rw [← hR]
  refine ⟨n40, fun i hi => low i (by omega) (by omega), nos 101 (by omega) (by unfold stepIx; simp), fun i hi => nos i (by omega) (by unfold stepIx; rw [decide_eq_false]; omega), fun s w hs hst hw => ?_, cw, fun c k hc hk => ?_⟩
  · unfold dn
    by_cases h : t < s
    · rw [if_pos h, sh _ (by omega) (by omega), show 41 + 5 * (s - 1) + w + 5 = 41 + 5 * s + w by omega]
    · rw [if_neg h, low _ (by omega) (by omega)]
  · obtain ⟨e1, e2⟩ := (b6 c hc).2.2 k hk
    rw [← hR] at e2
    have h8 := (b6 c hc).2.1.2
    have hf := hfree c hc k hk
    obtain ⟨s, hs⟩ := ex_val (nat g (109 + 21 * c + k))
    rw [← hs] at e1 e2 ⊢
    have hst : s ≠ t := fun e => hf (by rw [e1, e])
    refine ⟨e2, hst, ?_⟩
    have ix : stepIx g (109 + 21 * c + k) = true := by
      rw [show 109 + 21 * c + k = 102 + 21 * c + (7 + k) by omega, stepIx_of i1' hc (by omega), decide_eq_true_iff]
      omega
    rw [hG]; unfold dropF
    rw [if_neg (by omega), if_neg (by omega), if_pos ⟨ix, by omega⟩]
    unfold dcV dn
    rw [e1]
    by_cases h : t < s
    · rw [if_pos (nI_lt h (by omega)), if_pos h, pk_sub (by omega)]
    · rw [if_neg (fun q => h ((nI_ltI (by omega) (by omega)).mp q)), if_neg h]
      rw [pk_sub (Nat.zero_le _)]
      rfl
theorem dn_rm {t j : Nat} : dn t (if j < t then j else j + 1) = j ∧ (if j < t then j else j + 1) ≠ t := by
  unfold dn
  by_cases h : j < t
  · rw [if_pos h, if_neg (by omega)]
    exact ⟨rfl, by omega⟩
  · rw [if_neg h, if_pos (by omega)]
    exact ⟨by omega, by omega⟩
theorem nat_nI {g : Nat → Int32} {i m : Nat} (h : g i = nI m) (hm : m < 1000) : nat g i = m := by
  unfold nat
  rw [h]
  exact nI_clamp (by omega)
theorem tv_drop {g : Nat → Int32} {t s : Nat} (hB : GB g) (ht : t < nat g 40) (h0 : q_set g (nI t) = 0) (hs : s < nat g 40) (hst : s ≠ t) : tvOf (dropG g t) (dn t s) = tvOf g s := by
  obtain ⟨n40, low, o101, hi, trv, cw, stv⟩ := drop_v hB ht h0
  have h40 := hB.2.1.2
  have h101 := hB.2.2.1.2
  have h3 := hB.1.2
  have hds : dn t s < 1000 := by unfold dn; split <;> omega
  have n101 : nat (dropG g t) 101 = nat g 101 := nat_eq o101
  have e106 : ∀ c, c < nat g 101 → nat (dropG g t) (106 + 21 * c) = nat g (106 + 21 * c) := by
    intro c hc
    have := cw c 4 hc (by omega) (by omega)
    rw [show 102 + 21 * c + 4 = 106 + 21 * c by omega] at this
    exact nat_eq this
  have qi : ∀ c, c < nat g 101 → ∀ k, q_in (dropG g t) (nI (dn t s)) k c = q_in g (nI s) k c := by
    intro c hc k
    have h8 := (hB.2.2.2.2.2 c hc).2.1.2
    unfold q_in q_step
    rw [e106 c hc, find9_cg (q := fun k => g (109 + 21 * c + k) == nI s) _ _ (fun j _ hj => ?_)]
    · cases hf : find9 (fun k => g (109 + 21 * c + k) == nI s) 0 (nat g (106 + 21 * c)) with
      | none => rfl
      | some j =>
        have hj := (find9_lt hf).2.1
        have e := cw c (14 + j) hc (by omega) (by omega)
        rw [show 102 + 21 * c + (14 + j) = 116 + 21 * c + j by omega] at e
        show (dropG g t (116 + 21 * c + j) == k) = _
        rw [e]
    · obtain ⟨s1, s2, s3⟩ := stv c j hc (by omega)
      have e1 := ((hB.2.2.2.2.2 c hc).2.2 j (by omega)).1
      show (dropG g t (109 + 21 * c + j) == nI (dn t s)) = (g (109 + 21 * c + j) == nI s)
      rw [s3]
      obtain ⟨u, hu⟩ := ex_val (nat g (109 + 21 * c + j))
      rw [← hu] at s1 s2 e1 ⊢
      rw [e1, nI_beq (by unfold dn; split <;> omega) hds, nI_beq (by omega) (by omega)]
      by_cases e : u = s
      · rw [e]
        simp
      · rw [decide_eq_false e, decide_eq_false (fun q => e (dn_inj s2 hst q))]
  have hty : ∀ c, c < nat g 101 → (dropG g t) (8 + 6 * nat (dropG g t) (102 + 21 * c)) = g (8 + 6 * nat g (102 + 21 * c)) ∧ (dropG g t) (9 + 6 * nat (dropG g t) (102 + 21 * c)) = g (9 + 6 * nat g (102 + 21 * c)) := by
    intro c hc
    have e : nat (dropG g t) (102 + 21 * c) = nat g (102 + 21 * c) := nat_eq (cw c 0 hc (by omega) (by omega))
    have h1 := (hB.2.2.2.2.2 c hc).1.2
    rw [e]
    exact ⟨low _ (by omega), low _ (by omega)⟩
  have e5 : ∀ w, w < 5 → dropG g t (41 + 5 * dn t s + w) = g (41 + 5 * s + w) := fun w hw => trv s w hs hst hw
  have x0 := e5 0 (by decide)
  have x1 := e5 1 (by decide)
  have x2 := e5 2 (by decide)
  have x3 := e5 3 (by decide)
  have x4 := e5 4 (by decide)
  rw [show 41 + 5 * dn t s + 1 = 42 + 5 * dn t s by omega, show 41 + 5 * s + 1 = 42 + 5 * s by omega] at x1
  rw [show 41 + 5 * dn t s + 2 = 43 + 5 * dn t s by omega, show 41 + 5 * s + 2 = 43 + 5 * s by omega] at x2
  rw [show 41 + 5 * dn t s + 3 = 44 + 5 * dn t s by omega, show 41 + 5 * s + 3 = 44 + 5 * s by omega] at x3
  rw [show 41 + 5 * dn t s + 4 = 45 + 5 * dn t s by omega, show 41 + 5 * s + 4 = 45 + 5 * s by omega] at x4
  have c1 : (fun k => q_class (dropG g t) (nI (dn t s)) (nI k)) = fun k => q_class g (nI s) (nI k) := by
    funext k
    unfold q_class
    rw [n101, find9_cg (q := q_in g (nI s) (nI k)) _ _ (fun j _ hj => qi j (by omega) _)]
    cases hf : find9 (q_in g (nI s) (nI k)) 0 (nat g 101) with
    | none => rfl
    | some c => exact (hty c (by have := (find9_lt hf).2.1; omega)).1
  have c2 : (fun k => q_area (dropG g t) (nI (dn t s)) (nI k)) = fun k => q_area g (nI s) (nI k) := by
    funext k
    unfold q_area
    rw [n101]
    exact sumN_cg _ (fun c hc => by rw [qi c hc, (hty c hc).2])
  have c3 : (fun k => q_cnt (dropG g t) (nI (dn t s)) (nI k)) = fun k => q_cnt g (nI s) (nI k) := by
    funext k
    unfold q_cnt
    rw [n101]
    exact sumN_cg _ (fun c hc => by rw [qi c hc])
  unfold tvOf
  rw [c1, c2, c3, x1, x2, x3, nat_eq2 x4, show dropG g t (41 + 5 * dn t s) = g (41 + 5 * s) from x0]
theorem sumF_0 {f : Nat → Nat} : ∀ n, sumF f n = 0 ↔ ∀ k, k < n → f k = 0 := by
  intro n
  induction n with
  | zero => exact ⟨fun _ k hk => absurd hk (by omega), fun _ => rfl⟩
  | succ n ih =>
    show sumF f n + f n = 0 ↔ _
    refine ⟨fun h k hk => ?_, fun h => ?_⟩
    · by_cases e : k = n
      · rw [e]; omega
      · exact ih.mp (by omega) k (by omega)
    · rw [ih.mpr (fun k hk => h k (by omega)), h n (by omega)]
theorem sum_z {f : Nat → Nat} : ∀ n, (∀ c, c < n → f c = 0) → ((List.range n).map f).sum = 0 := by
  intro n
  induction n with
  | zero => intro _; rfl
  | succ n ih =>
    intro h
    rw [List.range_succ, List.map_append, List.sum_append, ih (fun c hc => h c (by omega))]
    simp [h n (by omega)]
/-- a tray without cables: its counts -/
theorem cnt_drop {g : Nat → Int32} {t : Nat} (hI : IG g) (ht : t < nat g 40) : sumN (tvU (tvOf g t)) (tvN (tvOf g t)) = 0 ↔ q_set g (nI t) = 0 := by
  have hB := hI.1
  have h101 := hB.2.2.1.2
  have h40 := hB.2.1.2
  have hGR := hI.2.2.2.2.2.2.2.2.2.1
  have hU : ∀ k, ∃ m, m ≤ nat g 101 ∧ q_cnt g (nI t) k = nI m ∧ (m = 0 ↔ ∀ c, c < nat g 101 → q_in g (nI t) k c = false) := fun k => cnt_0 (P := q_in g (nI t) k) (nat g 101) (by omega)
  have hf : ∀ k, q_cnt g (nI t) k = nI (q_cnt g (nI t) k).toNatClampNeg ∧ (q_cnt g (nI t) k).toNatClampNeg ≤ 12 ∧ ((q_cnt g (nI t) k).toNatClampNeg = 0 ↔ ∀ c, c < nat g 101 → q_in g (nI t) k c = false) := by
    intro k
    obtain ⟨m, m1, m2, m3⟩ := hU k
    have e : (q_cnt g (nI t) k).toNatClampNeg = m := by rw [m2]; exact nI_clamp (by omega)
    rw [e]
    exact ⟨m2, by omega, m3⟩
  have h4 := (hB.2.2.2.2.1 t ht).1.2
  obtain ⟨n, hn⟩ : ∃ n, nat g (45 + 5 * t) = n := ⟨_, rfl⟩
  have hs : sumN (tvU (tvOf g t)) (tvN (tvOf g t)) = nI (sumF (fun k => (q_cnt g (nI t) (nI k)).toNatClampNeg) n) := by
    show sumN (fun k => q_cnt g (nI t) (nI k)) (nat g (45 + 5 * t)) = _
    rw [hn]
    exact sumN_nI _ (fun k hk => (hf (nI k)).1)
  have hle := sumF_le (f := fun k => (q_cnt g (nI t) (nI k)).toNatClampNeg) (b := 12) n (fun k _ => (hf (nI k)).2.1)
  have hz : nI (sumF (fun k => (q_cnt g (nI t) (nI k)).toNatClampNeg) n) = 0 ↔ sumF (fun k => (q_cnt g (nI t) (nI k)).toNatClampNeg) n = 0 := nI_eq (b := 0) (by omega) (by omega)
  rw [hs, hz, sumF_0]
  obtain ⟨g1, g2⟩ := q_set_N hB (nI t)
  refine ⟨fun h => ?_, fun h k hk => ?_⟩
  · have hno : ∀ c, c < nat g 101 → (q_step g c (nI t)).isSome = false := by
      intro c hc
      cases hst : q_step g c (nI t) with
      | none => rfl
      | some j =>
        exfalso
        have hst2 := hst
        unfold q_step at hst2
        obtain ⟨-, hj, hjt⟩ := find9_lt hst2
        have hj' : j < nat g (106 + 21 * c) := by omega
        have ejt : g (109 + 21 * c + j) = nI t := eq_of_beq hjt
        have k1 := (hGR c hc).2.2 j hj'
        have ent : nat g (109 + 21 * c + j) = t := by unfold nat; rw [ejt]; exact nI_clamp (by omega)
        rw [ent, hn] at k1
        have hq : q_in g (nI t) (nI (nat g (116 + 21 * c + j))) c = true := by
          unfold q_in
          rw [hst]
          show (g (116 + 21 * c + j) == _) = true
          rw [k1.1]
          exact beq_self_eq_true _
        have := (hf (nI (nat g (116 + 21 * c + j)))).2.2.mp (h _ k1.2) c hc
        rw [hq] at this
        cases this
    rw [g1]
    have e : q_setN g (nI t) = 0 := by
      unfold q_setN
      exact sum_z _ (fun c hc => by rw [hno c hc]; rfl)
    rw [e]
    rfl
  · refine (hf (nI k)).2.2.mpr (fun c hc => ?_)
    have hfree := drop_free hB h
    unfold q_in
    rw [q_step_none (fun j hj => hfree c hc j hj)]
section Drop
variable {G : Gl} {d : Nat} {Qr : Option AV → AH → Prop} {Qx : String → Nat → AH → Prop} {H H' : AH} {O : Nat → Nat} {p t l L n e : Nat} {A : PA} {g : Nat → Int32} {eT eR eC eD : Nat} {ty nm nd tr tc tf tu ca rl re dr : Nat → Nat} {st : Nat → Nat → Nat}
def rmA {α : Type} (f : Nat → α) (i j : Nat) : α := if j < i then f j else f (j + 1)
theorem TrX.rm {tv : Nat → TV} {i : Nat} (h : TrX G H O l L n tv e tr tc tf tu) (z0 : kd H (gSt G 1) = 0) (hi : i < n) (hK : Ks (SL L e) H H') (hL' : LsO G H' L (n - 1) (rmX tr i) e) (z : kd H' (gSt G 1) = 0) : Stq G (fun b => O b = l) H O H' (rlb O H l) ∧ TrX G H' (rlb O H l) l L (n - 1) (rmA tv i) e (rmX tr i) (rmA tc i) (rmA tf i) (rmA tu i) := by
  obtain ⟨a1, a2, a3, a4, a5⟩ := h
  obtain ⟨s, ow⟩ := own_add a1 a3 hK (Or.inl rfl) z
  have nsl := sl_ne a1 z0
  refine ⟨s, hL', by omega, ow, fun j hj => ?_, fun x y hx hy q => ?_⟩
  · have hh : ∀ u, u < n → TrO H' (tr u) (tc u) (tf u) (tu u) (tv u) ∧ rlb O H l (tr u) = l ∧ rlb O H l (tc u) = l ∧ rlb O H l (tf u) = l ∧ rlb O H l (tu u) = l := by
      intro u hu
      obtain ⟨b1, b2, b3, b4, b5⟩ := a4 u hu
      obtain ⟨n1, n2, n3, n4⟩ := b1.nz
      obtain ⟨c1, c2, c3, c4, c5, c6, c7, c8, c9, c10, c11, -⟩ := b1
      exact ⟨(a4 u hu).1.ks hK (nsl _ (by rw [c1]; decide) (by rw [c1]; decide) n1) (nsl _ (by rw [c9]; decide) (by rw [c9]; decide) n2) (nsl _ (by rw [c10]; decide) (by rw [c10]; decide) n3) (nsl _ (by rw [c11]; decide) (by rw [c11]; decide) n4), (rlb_n n1).trans b2, (rlb_n n2).trans b3, (rlb_n n3).trans b4, (rlb_n n4).trans b5⟩
    unfold rmX rmA
    by_cases h : j < i
    · rw [if_pos h, if_pos h, if_pos h, if_pos h, if_pos h]
      exact hh j (by omega)
    · rw [if_neg h, if_neg h, if_neg h, if_neg h, if_neg h]
      exact hh (j + 1) (by omega)
  · unfold rmA at q
    by_cases h1 : x < i
    · rw [if_pos h1, if_pos h1, if_pos h1] at q
      by_cases h2 : y < i
      · rw [if_pos h2, if_pos h2, if_pos h2] at q
        exact a5 x y (by omega) (by omega) q
      · rw [if_neg h2, if_neg h2, if_neg h2] at q
        have := a5 x (y + 1) (by omega) (by omega) q
        omega
    · rw [if_neg h1, if_neg h1, if_neg h1] at q
      by_cases h2 : y < i
      · rw [if_pos h2, if_pos h2, if_pos h2] at q
        have := a5 (x + 1) y (by omega) (by omega) q
        omega
      · rw [if_neg h2, if_neg h2, if_neg h2] at q
        have := a5 (x + 1) (y + 1) (by omega) (by omega) q
        omega
theorem pl_dropTray {c : Int32} (hd : 8 ≤ d) (hP : IsP G H O t p A g) (hI : IG g) (hQ : ∀ u, c = nI u → u < nat g 40 → c_dropTray g c = 0 → ∀ H' O', Stq G (fun b => O b / 8 = t) H O H' O' → IsPlan G H' O' t p (dropG g u) → Qr (some (vI (nI (nat g 40 - 1)))) H') (hX1 : c_dropTray g c = 1 → ∀ q, Qx "java/lang/IndexOutOfBoundsException" q H) (hX2 : c_dropTray g c = 2 → ∀ q, Qx "java/lang/IllegalStateException" q H) : AMet G d 87 184 yX2_dropTray wX2_dropTray H [vR (some p), vI c] Qr Qx := by
  obtain ⟨t0, h1, ⟨eT, ty, nm, nd, h2⟩, ⟨eR, tr, tc, tf, tu, h3⟩, ⟨eC, ca, rl, re, st, h4⟩, ⟨eD, dr, h5⟩⟩ := hP
  have h19 := h1
  obtain ⟨⟨p1, p8, p9, p10, p11, p12, p13, p14, p15⟩, pO⟩ := h1
  have hB := hI.1
  have hYY := hI.2.2.2.2.2.2.2.1
  have h40 := hB.2.1.2
  have h101 := hB.2.2.1.2
  have h36 := hB.1.2
  have e9 : inB c (nI 0) (nI (nat g 40) - nI 1) = isT g c := by unfold isT; rw [← hB.2.1.1]
  obtain ⟨n, hn⟩ : ∃ n, nat g 40 = n := ⟨_, rfl⟩
  obtain ⟨m, hm⟩ : ∃ m, nat g 101 = m := ⟨_, rfl⟩
  rw [hn] at h40
  rw [hm] at h101
  refine AMet.of (M := mX2_dropTray) (maxL := 5) (by first | rfl | decide +kernel) rfl (Nat.le_of_ble_eq_true rfl) ?_
  show AW mX2_dropTray _ _ _ _ _ _ _ 0 [some (vR (some p)), some (vI c), none, none, none] []
  refine AW.st0 (fun z0 => ?_)
  refine r_aload_n (i := 0) dX2_dropTray_0 rfl rfl ?_
  refine r_iload_n (i := 1) dX2_dropTray_1 rfl rfl ?_
  refine r_callV (As := [_]) (mc' := 1) (ms' := 6) dX2_dropTray_2 k_X2_150 rfl (by first | assumption | (simp only [kd_sI, kd_sR, kd_sA, kd_sQ, kd_sL, kd_sD, ln_sI, ln_sR, ln_sA, ln_sQ, ln_sL, ln_sD, gI_sR, gI_sA, gI_sQ, gI_sL, gI_sD, gR_sI, gR_sA, gR_sQ, gR_sL, gR_sD, gA_sI, gA_sR, gA_sQ, gA_sL, gA_sD, gQ_sI, gQ_sR, gQ_sA, gQ_sL, gQ_sD, gL_sI, gL_sR, gL_sA, gL_sQ, gL_sD]; assumption) | simp [kd_sI, kd_sR, kd_sA, kd_sQ, kd_sL, kd_sD, ln_sI, ln_sR, ln_sA, ln_sQ, ln_sL, ln_sD, gI_sR, gI_sA, gI_sQ, gI_sL, gI_sD, gR_sI, gR_sA, gR_sQ, gR_sL, gR_sD, gA_sI, gA_sR, gA_sQ, gA_sL, gA_sD, gQ_sI, gQ_sR, gQ_sA, gQ_sL, gQ_sD, gL_sI, gL_sR, gL_sA, gL_sQ, gL_sD, kd_nO, kd_nA, *]) (T := TX2) (N := 8) rfl (by first | assumption | omega) (by first | assumption | omega) (by first | assumption | omega) (Nat.le_of_ble_eq_true rfl) ?_
  refine c_ptray (by omega) p1 p10 h3.1 (by omega) (fun i hi => (h3.2.2.2.1 i hi).1.1) (fun hc u hu ec => ?_) (fun hc q => x_out (by decide) (hX1 (by unfold c_dropTray; rw [← e9, hc]; rfl) q))
  rw [e9] at hc
  subst ec
  have hTu := (h3.2.2.2.1 u hu).1
  have kTu := hTu.1
  have huc : (nI u).toNatClampNeg = u := nI_clamp (by omega)
  have hcd : c_dropTray g (nI u) = if q_set g (nI u) = 0 then 0 else 2 := by
    unfold c_dropTray
    rw [hc, if_neg (by decide)]
  have hci := cnt_drop hI hu
  show AW mX2_dropTray G d Qr Qx _ _ H 5 _ _
  refine r_callV (As := []) (mc' := 0) (ms' := 0) dX2_dropTray_5 k_X2_154 rfl (by first | assumption | (simp only [kd_sI, kd_sR, kd_sA, kd_sQ, kd_sL, kd_sD, ln_sI, ln_sR, ln_sA, ln_sQ, ln_sL, ln_sD, gI_sR, gI_sA, gI_sQ, gI_sL, gI_sD, gR_sI, gR_sA, gR_sQ, gR_sL, gR_sD, gA_sI, gA_sR, gA_sQ, gA_sL, gA_sD, gQ_sI, gQ_sR, gQ_sA, gQ_sL, gQ_sD, gL_sI, gL_sR, gL_sA, gL_sQ, gL_sD]; assumption) | simp [kd_sI, kd_sR, kd_sA, kd_sQ, kd_sL, kd_sD, ln_sI, ln_sR, ln_sA, ln_sQ, ln_sL, ln_sD, gI_sR, gI_sA, gI_sQ, gI_sL, gI_sD, gR_sI, gR_sA, gR_sQ, gR_sL, gR_sD, gA_sI, gA_sR, gA_sQ, gA_sL, gA_sD, gQ_sI, gQ_sR, gQ_sA, gQ_sL, gQ_sD, gL_sI, gL_sR, gL_sA, gL_sQ, gL_sD, kd_nO, kd_nA, *]) (T := TX4) (N := 7) rfl (by first | assumption | omega) (by first | assumption | omega) (by first | assumption | omega) (Nat.le_of_ble_eq_true rfl) ?_
  refine c_count hTu ?_
  show AW mX2_dropTray G d Qr Qx _ _ H 8 _ _
  by_cases hs : q_set g (nI u) = 0
  · rw [if_pos hs] at hcd
    rw [hci.mpr hs]
    refine r_if_ne (tgt := 15) dX2_dropTray_8 (by decide) (fun h8 => ?_) (fun h8 => ?_)
    · exact absurd rfl h8
    · refine r_iconst (v := nI 1) dX2_dropTray_11 (by decide) ?_
      refine r_goto (tgt := 16) dX2_dropTray_12 (by decide) ?_
      refine r_callSN (As := [_]) (mc' := 1) (ms' := 6) dX2_dropTray_16 k_X2_131 rfl (by first | assumption | omega) (by first | assumption | omega) (by first | assumption | omega) (Nat.le_of_ble_eq_true rfl) ?_
      refine s_checkState (b := true) (by omega) (fun _ => ?_) (fun h => by cases h)
      have kL := h3.1.1
      show AW mX2_dropTray G d Qr Qx _ _ H 19 _ _
      refine r_aload_n (i := 0) dX2_dropTray_19 rfl rfl ?_
      refine r_getR dX2_dropTray_20 fR_X2_25 (by first | assumption | (simp only [kd_sI, kd_sR, kd_sA, kd_sQ, kd_sL, kd_sD, ln_sI, ln_sR, ln_sA, ln_sQ, ln_sL, ln_sD, gI_sR, gI_sA, gI_sQ, gI_sL, gI_sD, gR_sI, gR_sA, gR_sQ, gR_sL, gR_sD, gA_sI, gA_sR, gA_sQ, gA_sL, gA_sD, gQ_sI, gQ_sR, gQ_sA, gQ_sL, gQ_sD, gL_sI, gL_sR, gL_sA, gL_sQ, gL_sD]; assumption) | simp [kd_sI, kd_sR, kd_sA, kd_sQ, kd_sL, kd_sD, ln_sI, ln_sR, ln_sA, ln_sQ, ln_sL, ln_sD, gI_sR, gI_sA, gI_sQ, gI_sL, gI_sD, gR_sI, gR_sA, gR_sQ, gR_sL, gR_sD, gA_sI, gA_sR, gA_sQ, gA_sL, gA_sD, gQ_sI, gQ_sR, gQ_sA, gQ_sL, gQ_sD, gL_sI, gL_sR, gL_sA, gL_sQ, gL_sD, kd_nO, kd_nA, *]) (by first | assumption | exact gI_sIs | exact gR_sRs | with_reducible rfl | (simp only [kd_sI, kd_sR, kd_sA, kd_sQ, kd_sL, kd_sD, ln_sI, ln_sR, ln_sA, ln_sQ, ln_sL, ln_sD, gI_sR, gI_sA, gI_sQ, gI_sL, gI_sD, gR_sI, gR_sA, gR_sQ, gR_sL, gR_sD, gA_sI, gA_sR, gA_sQ, gA_sL, gA_sD, gQ_sI, gQ_sR, gQ_sA, gQ_sL, gQ_sD, gL_sI, gL_sR, gL_sA, gL_sQ, gL_sD]; first | done | assumption | with_reducible rfl) | rfl) ?_
      refine r_iload_n (i := 1) dX2_dropTray_23 rfl rfl ?_
      refine r_callV (As := [_]) (mc' := 0) (ms' := 0) dX2_dropTray_24 k_X2_157 rfl (by first | assumption | (simp only [kd_sI, kd_sR, kd_sA, kd_sQ, kd_sL, kd_sD, ln_sI, ln_sR, ln_sA, ln_sQ, ln_sL, ln_sD, gI_sR, gI_sA, gI_sQ, gI_sL, gI_sD, gR_sI, gR_sA, gR_sQ, gR_sL, gR_sD, gA_sI, gA_sR, gA_sQ, gA_sL, gA_sD, gQ_sI, gQ_sR, gQ_sA, gQ_sL, gQ_sD, gL_sI, gL_sR, gL_sA, gL_sQ, gL_sD]; assumption) | simp [kd_sI, kd_sR, kd_sA, kd_sQ, kd_sL, kd_sD, ln_sI, ln_sR, ln_sA, ln_sQ, ln_sL, ln_sD, gI_sR, gI_sA, gI_sQ, gI_sL, gI_sD, gR_sI, gR_sA, gR_sQ, gR_sL, gR_sD, gA_sI, gA_sR, gA_sQ, gA_sL, gA_sD, gQ_sI, gQ_sR, gQ_sA, gQ_sL, gQ_sD, gL_sI, gL_sR, gL_sA, gL_sQ, gL_sD, kd_nO, kd_nA, *]) (T := TJ2) (N := 3) rfl (by first | assumption | omega) (by first | assumption | omega) (by first | assumption | omega) (Nat.le_of_ble_eq_true rfl) ?_
      refine s_remove (by omega) h3.1 hu (by omega) (fun H1 hK1 hL1 => ?_)
      refine AW.st0 (fun z1 => ?_)
      obtain ⟨s1, x3⟩ := h3.rm z0 hu hK1 hL1 z1
      obtain ⟨O1, hO1⟩ : ∃ O1, O1 = rlb O H (8 * t + 3) := ⟨_, rfl⟩
      rw [← hO1] at s1 x3
      obtain ⟨n40, low, o101, hi, trv, cw, stv⟩ := drop_v hB hu hs
      have x3' := x3.to (tv' := tvOf (dropG g u)) (fun j hj => by
        unfold rmA
        obtain ⟨q1, q2⟩ := dn_rm (t := u) (j := j)
        have := tv_drop hB hu hs (s := if j < u then j else j + 1) (by split <;> omega) q2
        rw [q1] at this
        rw [this]
        split <;> rfl)
      have x1 := h19.ks s1 (fun b _ e => by omega)
      have x2 := h2.ks s1 (fun b _ e => ⟨by omega, by omega, fun h => by omega⟩)
      have x4 := h4.ks s1 (fun b _ e => ⟨by omega, by omega⟩)
      have x5 := h5.ks s1 (fun b _ e => by omega)
      have kTu1 : kd H1 (tr u) = 3 := hK1.kk kTu (by decide)
      obtain ⟨⟨w1, w8, w9, w10, w11, w12, w13, w14, w15⟩, wO⟩ := x1
      have kC := x4.1.1
      show AW mX2_dropTray G d Qr Qx _ _ H1 27 _ _
      refine r_cast dX2_dropTray_27 (by first | assumption | (simp only [kd_sI, kd_sR, kd_sA, kd_sQ, kd_sL, kd_sD, ln_sI, ln_sR, ln_sA, ln_sQ, ln_sL, ln_sD, gI_sR, gI_sA, gI_sQ, gI_sL, gI_sD, gR_sI, gR_sA, gR_sQ, gR_sL, gR_sD, gA_sI, gA_sR, gA_sQ, gA_sL, gA_sD, gQ_sI, gQ_sR, gQ_sA, gQ_sL, gQ_sD, gL_sI, gL_sR, gL_sA, gL_sQ, gL_sD]; assumption) | simp [kd_sI, kd_sR, kd_sA, kd_sQ, kd_sL, kd_sD, ln_sI, ln_sR, ln_sA, ln_sQ, ln_sL, ln_sD, gI_sR, gI_sA, gI_sQ, gI_sL, gI_sD, gR_sI, gR_sA, gR_sQ, gR_sL, gR_sD, gA_sI, gA_sR, gA_sQ, gA_sL, gA_sD, gQ_sI, gQ_sR, gQ_sA, gQ_sL, gQ_sD, gL_sI, gL_sR, gL_sA, gL_sQ, gL_sD, kd_nO, kd_nA, *]) (T := TX4) (N := 7) rfl q1233 (Or.inl rfl) ?_
      refine r_astore_n (i := 2) dX2_dropTray_30 rfl (Nat.le_of_ble_eq_true rfl) (by simp only [lset]; rfl) ?_
      refine r_aload_n (i := 0) dX2_dropTray_31 rfl rfl ?_
      refine r_getR dX2_dropTray_32 fR_X2_28 (by first | assumption | (simp only [kd_sI, kd_sR, kd_sA, kd_sQ, kd_sL, kd_sD, ln_sI, ln_sR, ln_sA, ln_sQ, ln_sL, ln_sD, gI_sR, gI_sA, gI_sQ, gI_sL, gI_sD, gR_sI, gR_sA, gR_sQ, gR_sL, gR_sD, gA_sI, gA_sR, gA_sQ, gA_sL, gA_sD, gQ_sI, gQ_sR, gQ_sA, gQ_sL, gQ_sD, gL_sI, gL_sR, gL_sA, gL_sQ, gL_sD]; assumption) | simp [kd_sI, kd_sR, kd_sA, kd_sQ, kd_sL, kd_sD, ln_sI, ln_sR, ln_sA, ln_sQ, ln_sL, ln_sD, gI_sR, gI_sA, gI_sQ, gI_sL, gI_sD, gR_sI, gR_sA, gR_sQ, gR_sL, gR_sD, gA_sI, gA_sR, gA_sQ, gA_sL, gA_sD, gQ_sI, gQ_sR, gQ_sA, gQ_sL, gQ_sD, gL_sI, gL_sR, gL_sA, gL_sQ, gL_sD, kd_nO, kd_nA, *]) (by first | assumption | exact gI_sIs | exact gR_sRs | with_reducible rfl | (simp only [kd_sI, kd_sR, kd_sA, kd_sQ, kd_sL, kd_sD, ln_sI, ln_sR, ln_sA, ln_sQ, ln_sL, ln_sD, gI_sR, gI_sA, gI_sQ, gI_sL, gI_sD, gR_sI, gR_sA, gR_sQ, gR_sL, gR_sD, gA_sI, gA_sR, gA_sQ, gA_sL, gA_sD, gQ_sI, gQ_sR, gQ_sA, gQ_sL, gQ_sD, gL_sI, gL_sR, gL_sA, gL_sQ, gL_sD]; first | done | assumption | with_reducible rfl) | rfl) ?_
      refine r_callV (As := []) (mc' := 1) (ms' := 4) dX2_dropTray_35 k_X2_42 rfl (by first | assumption | (simp only [kd_sI, kd_sR, kd_sA, kd_sQ, kd_sL, kd_sD, ln_sI, ln_sR, ln_sA, ln_sQ, ln_sL, ln_sD, gI_sR, gI_sA, gI_sQ, gI_sL, gI_sD, gR_sI, gR_sA, gR_sQ, gR_sL, gR_sD, gA_sI, gA_sR, gA_sQ, gA_sL, gA_sD, gQ_sI, gQ_sR, gQ_sA, gQ_sL, gQ_sD, gL_sI, gL_sR, gL_sA, gL_sQ, gL_sD]; assumption) | simp [kd_sI, kd_sR, kd_sA, kd_sQ, kd_sL, kd_sD, ln_sI, ln_sR, ln_sA, ln_sQ, ln_sL, ln_sD, gI_sR, gI_sA, gI_sQ, gI_sL, gI_sD, gR_sI, gR_sA, gR_sQ, gR_sL, gR_sD, gA_sI, gA_sR, gA_sQ, gA_sL, gA_sD, gQ_sI, gQ_sR, gQ_sA, gQ_sL, gQ_sD, gL_sI, gL_sR, gL_sA, gL_sQ, gL_sD, kd_nO, kd_nA, *]) (T := TJ2) (N := 3) rfl (by first | assumption | omega) (by first | assumption | omega) (by first | assumption | omega) (Nat.le_of_ble_eq_true rfl) ?_
      refine s_iterator (by omega) kC (fun H2 it hit hK2 hI2 => ?_)
      refine AW.st0 (fun z2 => ?_)
      have s2 : Stq G (fun _ => False) H1 O1 H2 (rlb O1 H1 7) := Stq.rl _ hK2 z2
      have o2 : rlb O1 H1 7 it = 7 := rlb_f hit
      obtain ⟨O2, hO2⟩ : ∃ O2, O2 = rlb O1 H1 7 := ⟨_, rfl⟩
      rw [← hO2] at s2 o2
      have y1 := PlF.ks ⟨⟨w1, w8, w9, w10, w11, w12, w13, w14, w15⟩, wO⟩ s2 (fun _ _ h => h.elim)
      have y2 := x2.ks s2 (fun _ _ h => h.elim)
      have y3 := x3'.ks s2 (fun _ _ h => h.elim)
      have y4 := x4.ks s2 (fun _ _ h => h.elim)
      have y5 := x5.ks s2 (fun _ _ h => h.elim)
      have s02 := s1.tr2 s2 (fun _ _ h => h.elim)
      show AW mX2_dropTray G d Qr Qx _ _ H2 38 _ _
      refine r_astore_n (i := 3) dX2_dropTray_38 rfl (Nat.le_of_ble_eq_true rfl) (by simp only [lset]; rfl) ?_
      have loop : ∀ (k i rc rs : Nat) (H3 : AH) (O3 : Nat → Nat) (l4 : Option AV) (st3 : Nat → Nat → Nat), i + k = m → 7 * k ≤ rc → 14 * k ≤ rs → Stq G (fun b => O2 b = 8 * t + 4 ∨ b = it) H2 O2 H3 O3 → ItS H3 it A.ca i → CaX G H3 O3 (8 * t + 4) A.ca (nat g 101) (fun c => if c < i then cvOf (dropG g u) c else cvOf g c) eC ca rl re st3 → AW mX2_dropTray G d Qr Qx rc rs H3 39 [some (vR (some p)), some (vI (nI u)), some (vR (some (tr u))), some (vR (some it)), l4] [] := by
        intro k
        induction k with
        | zero =>
          intro i rc rs H3 O3 l4 st3 him hrc hrs s3 hI3 hC3
          have z3 := s3.2.2
          have hs3 : ∀ b, O2 b = 8 * t + 4 ∨ b = it → O2 b = 8 * t + 4 ∨ O2 b = 7 := fun b e => e.imp (fun h => h) (fun h => by rw [h]; exact o2)
          have v1 := y1.ks s3 (fun b _ e => by have := hs3 b e; omega)
          have v2 := y2.ks s3 (fun b _ e => by have := hs3 b e; exact ⟨by omega, by omega, fun h => by omega⟩)
          have v3 := y3.ks s3 (fun b _ e => by have := hs3 b e; omega)
          have v5 := y5.ks s3 (fun b _ e => by have := hs3 b e; omega)
          have ki := hI3.1
          have hc20 := hC3.1
          refine r_aload_n (i := 3) dX2_dropTray_39 rfl rfl ?_
          refine r_callF (As := []) (mc' := 0) (ms' := 0) dX2_dropTray_40 k_X2_46_J14 rfl (by first | assumption | (simp only [kd_sI, kd_sR, kd_sA, kd_sQ, kd_sL, kd_sD, ln_sI, ln_sR, ln_sA, ln_sQ, ln_sL, ln_sD, gI_sR, gI_sA, gI_sQ, gI_sL, gI_sD, gR_sI, gR_sA, gR_sQ, gR_sL, gR_sD, gA_sI, gA_sR, gA_sQ, gA_sL, gA_sD, gQ_sI, gQ_sR, gQ_sA, gQ_sL, gQ_sD, gL_sI, gL_sR, gL_sA, gL_sQ, gL_sD]; assumption) | simp [kd_sI, kd_sR, kd_sA, kd_sQ, kd_sL, kd_sD, ln_sI, ln_sR, ln_sA, ln_sQ, ln_sL, ln_sD, gI_sR, gI_sA, gI_sQ, gI_sL, gI_sD, gR_sI, gR_sA, gR_sQ, gR_sL, gR_sD, gA_sI, gA_sR, gA_sQ, gA_sL, gA_sD, gQ_sI, gQ_sR, gQ_sA, gQ_sL, gQ_sD, gL_sI, gL_sR, gL_sA, gL_sQ, gL_sD, kd_nO, kd_nA, *]) (T := TJ14) (N := 4) rfl (by first | assumption | omega) (by first | assumption | omega) (by first | assumption | omega) (Nat.le_of_ble_eq_true rfl) ?_
          refine s_hasNext hI3 hc20.1 hc20.2.1 (by omega) (by omega) ?_
          rw [if_pos (by omega)]
          show AW mX2_dropTray G d Qr Qx _ _ H3 45 _ _
          have kv3 := v3.1.1
          have kp3 := v1.1.1
          have r10 := v1.1.2.2.2.1
          refine r_if_eq (tgt := 68) dX2_dropTray_45 (by decide) (fun h45 => ?_) (fun h45 => ?_)
          · refine r_aload_n (i := 0) dX2_dropTray_68 rfl rfl ?_
            refine r_getR dX2_dropTray_69 fR_X2_25 (by first | assumption | (simp only [kd_sI, kd_sR, kd_sA, kd_sQ, kd_sL, kd_sD, ln_sI, ln_sR, ln_sA, ln_sQ, ln_sL, ln_sD, gI_sR, gI_sA, gI_sQ, gI_sL, gI_sD, gR_sI, gR_sA, gR_sQ, gR_sL, gR_sD, gA_sI, gA_sR, gA_sQ, gA_sL, gA_sD, gQ_sI, gQ_sR, gQ_sA, gQ_sL, gQ_sD, gL_sI, gL_sR, gL_sA, gL_sQ, gL_sD]; assumption) | simp [kd_sI, kd_sR, kd_sA, kd_sQ, kd_sL, kd_sD, ln_sI, ln_sR, ln_sA, ln_sQ, ln_sL, ln_sD, gI_sR, gI_sA, gI_sQ, gI_sL, gI_sD, gR_sI, gR_sA, gR_sQ, gR_sL, gR_sD, gA_sI, gA_sR, gA_sQ, gA_sL, gA_sD, gQ_sI, gQ_sR, gQ_sA, gQ_sL, gQ_sD, gL_sI, gL_sR, gL_sA, gL_sQ, gL_sD, kd_nO, kd_nA, *]) (by first | assumption | exact gI_sIs | exact gR_sRs | with_reducible rfl | (simp only [kd_sI, kd_sR, kd_sA, kd_sQ, kd_sL, kd_sD, ln_sI, ln_sR, ln_sA, ln_sQ, ln_sL, ln_sD, gI_sR, gI_sA, gI_sQ, gI_sL, gI_sD, gR_sI, gR_sA, gR_sQ, gR_sL, gR_sD, gA_sI, gA_sR, gA_sQ, gA_sL, gA_sD, gQ_sI, gQ_sR, gQ_sA, gQ_sL, gQ_sD, gL_sI, gL_sR, gL_sA, gL_sQ, gL_sD]; first | done | assumption | with_reducible rfl) | rfl) ?_
            refine r_callV (As := []) (mc' := 0) (ms' := 0) dX2_dropTray_72 k_X2_88 rfl (by first | assumption | (simp only [kd_sI, kd_sR, kd_sA, kd_sQ, kd_sL, kd_sD, ln_sI, ln_sR, ln_sA, ln_sQ, ln_sL, ln_sD, gI_sR, gI_sA, gI_sQ, gI_sL, gI_sD, gR_sI, gR_sA, gR_sQ, gR_sL, gR_sD, gA_sI, gA_sR, gA_sQ, gA_sL, gA_sD, gQ_sI, gQ_sR, gQ_sA, gQ_sL, gQ_sD, gL_sI, gL_sR, gL_sA, gL_sQ, gL_sD]; assumption) | simp [kd_sI, kd_sR, kd_sA, kd_sQ, kd_sL, kd_sD, ln_sI, ln_sR, ln_sA, ln_sQ, ln_sL, ln_sD, gI_sR, gI_sA, gI_sQ, gI_sL, gI_sD, gR_sI, gR_sA, gR_sQ, gR_sL, gR_sD, gA_sI, gA_sR, gA_sQ, gA_sL, gA_sD, gQ_sI, gQ_sR, gQ_sA, gQ_sL, gQ_sD, gL_sI, gL_sR, gL_sA, gL_sQ, gL_sD, kd_nO, kd_nA, *]) (T := TJ2) (N := 3) rfl (by first | assumption | omega) (by first | assumption | omega) (by first | assumption | omega) (Nat.le_of_ble_eq_true rfl) ?_
            refine s_size v3.1.1 v3.1.2.1 ?_
            show AW mX2_dropTray G d Qr Qx _ _ H3 75 _ _
            refine r_ireturn dX2_dropTray_75 rfl (by first | rfl | assumption | exact vp_nar_int _ | exact pk_nc _) ?_
            have oo : ∀ b, kd H b ≠ 0 → O2 b = O b := fun b hb => s02.2.1 b hb
            have sT : Stq G (fun b => O b / 8 = t) H O H3 O3 := (s02.mono (fun b _ e => by omega)).tr2 s3 (fun b hb e => by
              rcases e with e | e
              · rw [oo b hb] at e
                omega
              · rw [e] at hb
                exact absurd (hK1.fr hit) hb)
            rw [← low 0 (by omega), ← low 1 (by omega), ← low 2 (by omega)] at v1
            have v2' := v2.to (g' := dropG g u) (fun y hy => by have := (hYY.1 y hy).1.2; show nat g (7 + 6 * y) ≤ 3; omega) (fun y k hy hk => low _ (by omega))
            have v4' := hC3.to (cv' := cvOf (dropG g u)) (fun c' k hc' hk => by rw [if_pos (by omega)])
            have v5' := v5.to (dv' := dvOf (dropG g u)) (fun x k hx hk => by unfold dvOf; exact hi _ (by omega))
            rw [← nat_eq (low 3 (by omega))] at v2'
            rw [← n40] at v3
            rw [← nat_eq o101] at v4'
            rw [← nat_eq (hi 354 (by omega))] at v5'
            have := hQ u rfl hu hcd H3 O3 sT ⟨A, t0, v1, ⟨_, _, _, _, v2'⟩, ⟨_, _, _, _, _, v3⟩, ⟨_, _, _, _, _, v4'⟩, ⟨_, _, v5'⟩⟩
            exact this
          · exact absurd rfl h45
        | succ k ih =>
          intro i rc rs H3 O3 l4 st3 him hrc hrs s3 hI3 hC3
          have z3 := s3.2.2
          have ki := hI3.1
          have hc20 := hC3.1
          have him2 : i < nat g 101 := by omega
          refine r_aload_n (i := 3) dX2_dropTray_39 rfl rfl ?_
          refine r_callF (As := []) (mc' := 0) (ms' := 0) dX2_dropTray_40 k_X2_46_J14 rfl (by first | assumption | (simp only [kd_sI, kd_sR, kd_sA, kd_sQ, kd_sL, kd_sD, ln_sI, ln_sR, ln_sA, ln_sQ, ln_sL, ln_sD, gI_sR, gI_sA, gI_sQ, gI_sL, gI_sD, gR_sI, gR_sA, gR_sQ, gR_sL, gR_sD, gA_sI, gA_sR, gA_sQ, gA_sL, gA_sD, gQ_sI, gQ_sR, gQ_sA, gQ_sL, gQ_sD, gL_sI, gL_sR, gL_sA, gL_sQ, gL_sD]; assumption) | simp [kd_sI, kd_sR, kd_sA, kd_sQ, kd_sL, kd_sD, ln_sI, ln_sR, ln_sA, ln_sQ, ln_sL, ln_sD, gI_sR, gI_sA, gI_sQ, gI_sL, gI_sD, gR_sI, gR_sA, gR_sQ, gR_sL, gR_sD, gA_sI, gA_sR, gA_sQ, gA_sL, gA_sD, gQ_sI, gQ_sR, gQ_sA, gQ_sL, gQ_sD, gL_sI, gL_sR, gL_sA, gL_sQ, gL_sD, kd_nO, kd_nA, *]) (T := TJ14) (N := 4) rfl (by first | assumption | omega) (by first | assumption | omega) (by first | assumption | omega) (Nat.le_of_ble_eq_true rfl) ?_
          refine s_hasNext hI3 hc20.1 hc20.2.1 (by omega) (by omega) ?_
          rw [if_neg (by omega)]
          show AW mX2_dropTray G d Qr Qx _ _ H3 45 _ _
          refine r_if_eq (tgt := 68) dX2_dropTray_45 (by decide) (fun h45 => ?_) (fun h45 => ?_)
          · exact absurd (show (nI 1 : Int32) = 0 by simpa using h45) (by decide)
          · refine r_aload_n (i := 3) dX2_dropTray_48 rfl rfl ?_
            refine r_callF (As := []) (mc' := 0) (ms' := 0) dX2_dropTray_49 k_X2_52_J14 rfl (by first | assumption | (simp only [kd_sI, kd_sR, kd_sA, kd_sQ, kd_sL, kd_sD, ln_sI, ln_sR, ln_sA, ln_sQ, ln_sL, ln_sD, gI_sR, gI_sA, gI_sQ, gI_sL, gI_sD, gR_sI, gR_sA, gR_sQ, gR_sL, gR_sD, gA_sI, gA_sR, gA_sQ, gA_sL, gA_sD, gQ_sI, gQ_sR, gQ_sA, gQ_sL, gQ_sD, gL_sI, gL_sR, gL_sA, gL_sQ, gL_sD]; assumption) | simp [kd_sI, kd_sR, kd_sA, kd_sQ, kd_sL, kd_sD, ln_sI, ln_sR, ln_sA, ln_sQ, ln_sL, ln_sD, gI_sR, gI_sA, gI_sQ, gI_sL, gI_sD, gR_sI, gR_sA, gR_sQ, gR_sL, gR_sD, gA_sI, gA_sR, gA_sQ, gA_sL, gA_sD, gQ_sI, gQ_sR, gQ_sA, gQ_sL, gQ_sD, gL_sI, gL_sR, gL_sA, gL_sQ, gL_sD, kd_nO, kd_nA, *]) (T := TJ14) (N := 4) rfl (by first | assumption | omega) (by first | assumption | omega) (by first | assumption | omega) (Nat.le_of_ble_eq_true rfl) ?_
            refine s_next (by omega) hI3 hc20 him2 (by omega) (fun H4 hK4 hI4 => ?_)
            refine AW.st0 (fun z4 => ?_)
            have s4 : Stq G (fun b => b = it) H3 O3 H4 O3 := Stq.of hK4 z4
            have oit : O3 it = 7 := by rw [s3.2.1 it (by have := hI2.1; rw [this]; decide)]; exact o2
            have hC4 := hC3.ks s4 (fun b _ e => by rw [e, oit]; omega)
            have hCo := (hC4.2.2.2.1 i him2).1
            have eCo : (fun c => if c < i then cvOf (dropG g u) c else cvOf g c) i = cvOf g i := if_neg (Nat.lt_irrefl i)
            rw [eCo] at hCo
            have hst4 := (hC4.2.2.2.1 i him2).2.2.2
            rw [eCo] at hst4
            have kc4 := hCo.1.1
            obtain ⟨nn, hnn⟩ : ∃ x, (cvOf g i 4).toNatClampNeg = x := ⟨_, rfl⟩
            rw [hnn] at hCo hst4
            have enn : nat g (106 + 21 * i) = nn := by rw [← hnn, cv_at i (106 + 21 * i) (by omega)]; rfl
            have kr4 := hCo.2.2.2.1.1
            have nre : ¬ ca i = re i := fun e => by
              rcases hCo.2.2.2.1.2.2.2.2 with q | q
              · have h9 := q.1
                rw [← e] at h9
                rw [h9, z4] at kc4
                omega
              · have h9 := q.1
                rw [← e, kc4] at h9
                omega
            show AW mX2_dropTray G d Qr Qx _ _ H4 54 _ _
            refine r_cast dX2_dropTray_54 (by first | assumption | (simp only [kd_sI, kd_sR, kd_sA, kd_sQ, kd_sL, kd_sD, ln_sI, ln_sR, ln_sA, ln_sQ, ln_sL, ln_sD, gI_sR, gI_sA, gI_sQ, gI_sL, gI_sD, gR_sI, gR_sA, gR_sQ, gR_sL, gR_sD, gA_sI, gA_sR, gA_sQ, gA_sL, gA_sD, gQ_sI, gQ_sR, gQ_sA, gQ_sL, gQ_sD, gL_sI, gL_sR, gL_sA, gL_sQ, gL_sD]; assumption) | simp [kd_sI, kd_sR, kd_sA, kd_sQ, kd_sL, kd_sD, ln_sI, ln_sR, ln_sA, ln_sQ, ln_sL, ln_sD, gI_sR, gI_sA, gI_sQ, gI_sL, gI_sD, gR_sI, gR_sA, gR_sQ, gR_sL, gR_sD, gA_sI, gA_sR, gA_sQ, gA_sL, gA_sD, gQ_sI, gQ_sR, gQ_sA, gQ_sL, gQ_sD, gL_sI, gL_sR, gL_sA, gL_sQ, gL_sD, kd_nO, kd_nA, *]) (T := TX5) (N := 7) rfl q1222 (Or.inl rfl) ?_
            refine r_astore dX2_dropTray_57 (Nat.le_of_ble_eq_true rfl) (by simp only [lset]; rfl) ?_
            refine r_aload dX2_dropTray_59 rfl ?_
            refine r_iload_n (i := 1) dX2_dropTray_61 rfl rfl ?_
            refine r_callV (As := [_]) (mc' := 7) (ms' := 14) dX2_dropTray_62 k_X2_160 rfl (by first | assumption | (simp only [kd_sI, kd_sR, kd_sA, kd_sQ, kd_sL, kd_sD, ln_sI, ln_sR, ln_sA, ln_sQ, ln_sL, ln_sD, gI_sR, gI_sA, gI_sQ, gI_sL, gI_sD, gR_sI, gR_sA, gR_sQ, gR_sL, gR_sD, gA_sI, gA_sR, gA_sQ, gA_sL, gA_sD, gQ_sI, gQ_sR, gQ_sA, gQ_sL, gQ_sD, gL_sI, gL_sR, gL_sA, gL_sQ, gL_sD]; assumption) | simp [kd_sI, kd_sR, kd_sA, kd_sQ, kd_sL, kd_sD, ln_sI, ln_sR, ln_sA, ln_sQ, ln_sL, ln_sD, gI_sR, gI_sA, gI_sQ, gI_sL, gI_sD, gR_sI, gR_sA, gR_sQ, gR_sL, gR_sD, gA_sI, gA_sR, gA_sQ, gA_sL, gA_sD, gQ_sI, gQ_sR, gQ_sA, gQ_sL, gQ_sD, gL_sI, gL_sR, gL_sA, gL_sQ, gL_sD, kd_nO, kd_nA, *]) (T := TX5) (N := 7) rfl (by first | assumption | omega) (by first | assumption | omega) (by first | assumption | omega) (Nat.le_of_ble_eq_true rfl) ?_
            refine c_renumber (by omega) hCo nre (fun H5 st5 hK5 hCo5 hso => ?_)
            refine AW.st0 (fun z5 => ?_)
            have v4 : ∀ k, k < 7 → cvOf (dropG g u) i k = cvOf g i k := fun k hk => cw i k him2 (by omega) (by omega)
            have hT5 : CaO G H5 (ca i) (rl i) (re i) st5 nn (cvOf (dropG g u) i) := hCo5.to (fun k hk => by
              unfold rnV
              rw [if_neg (by omega), v4 k hk]) (fun j hj => by
              have hn7 := hCo.2.2.1
              obtain ⟨q1, q2, q3⟩ := stv i j him2 (by omega)
              refine ⟨?_, ?_⟩
              · unfold rnV
                rw [if_pos (by omega), cv_at i (109 + 21 * i + j) (by omega), cv_at i (109 + 21 * i + j) (by omega), q3]
                have e1 := ((hB.2.2.2.2.2 i him2).2.2 j (by omega)).1
                unfold rnu dn
                rw [e1]
                by_cases h : u < nat g (109 + 21 * i + j)
                · rw [if_pos (nI_lt h (by omega)), if_pos h, nI_sub (by omega)]
                · rw [if_neg (fun q => h ((nI_ltI (by omega) (by omega)).mp q)), if_neg h]
              · unfold rnV
                rw [if_neg (by omega)]
                exact (cw i (14 + j) him2 (by omega) (by omega)).symm)
            have hz5 : ∀ j, j < nn → (if kd H4 (st5 j) = 0 then 0 else O3 (st5 j)) = 0 := by
              intro j hj
              rcases hso j hj with q | q
              · rw [q, if_neg (by rw [(hCo.2.2.2.2 j hj).1]; decide)]
                exact hst4 j hj
              · rw [if_pos q]
            have hren : kd H4 (re i) = 0 → kd H5 (re i) ≠ 0 → rlb O3 H4 0 (re i) = 8 * t + 4 := by
              intro h0 h5
              rcases hCo.2.2.2.1.2.2.2.2 with q | q
              · rw [q.1] at h5
                exact absurd z5 h5
              · rw [q.1] at h0
                exact absurd h0 (by decide)
            obtain ⟨q1, q2⟩ := hC4.setO (O' := rlb O3 H4 0) (v := cvOf (dropG g u) i) (k := nn) z4 him2 (hK5.mono (fun b _ q => q.elim (fun e => Or.inr (Or.inl e)) (fun e => Or.inr (Or.inr e)))) z5 (by rw [v4 4 (by omega)]; exact hnn) hT5 (Or.inl rfl) (fun _ ha => rlb_n ha) hren hz5
            have q2' := q2.to (cv' := fun c => if c < i + 1 then cvOf (dropG g u) c else cvOf g c) (fun c' k hc' hk => by
              by_cases e : c' = i
              · rw [e, upA_n, if_pos (by omega)]
              · rw [upA_i e]
                by_cases h : c' < i
                · rw [if_pos h, if_pos (by omega)]
                · rw [if_neg h, if_neg (by omega)])
            rw [upA_same] at q2'
            have hit4 : ItS H5 it A.ca (i + 1) := hI4.ks hK5 (fun q => by
              have k4 := hI4.1
              rcases q with q | q
              · rw [q, kr4] at k4
                omega
              · rcases hCo.2.2.2.1.2.2.2.2 with q5 | q5
                · rw [q, q5.1, z4] at k4
                  omega
                · rw [q, q5.1] at k4
                  omega) (by rw [hC4.1.1]; decide) (fun q => by
              rcases q with q | q
              · exact (hC4.2.2.2.2.2 i him2).1 q.symm
              · have k4 := hC4.1.1
                rcases hCo.2.2.2.1.2.2.2.2 with q5 | q5
                · rw [q, q5.1, z4] at k4
                  omega
                · rw [q, q5.1] at k4
                  omega)
            have s5 := (s3.tr2 s4 (fun b _ e => Or.inr e)).tr2 q1 (fun b hb e => by
              rw [s3.2.1 b hb] at e
              exact Or.inl e)
            show AW mX2_dropTray G d Qr Qx _ _ H5 65 _ _
            refine r_goto (tgt := 39) dX2_dropTray_65 (by decide) ?_
            exact ih (i + 1) _ _ H5 _ _ _ (by omega) (by omega) (by omega) s5 hit4 q2'
      exact loop m 0 _ _ H2 O2 _ st (by omega) (by omega) (by omega) ⟨Ks.rf, fun _ _ => rfl, z2⟩ hI2 (y4.to (fun c' k hc' hk => by rw [if_neg (by omega)]))
  · rw [if_neg hs] at hcd
    have hne : sumN (tvU (tvOf g u)) (tvN (tvOf g u)) ≠ 0 := fun q => hs (hci.mp q)
    refine r_if_ne (tgt := 15) dX2_dropTray_8 (by decide) (fun h8 => ?_) (fun h8 => ?_)
    · refine r_iconst (v := nI 0) dX2_dropTray_15 (by decide) ?_
      refine r_callSN (As := [_]) (mc' := 1) (ms' := 6) dX2_dropTray_16 k_X2_131 rfl (by first | assumption | omega) (by first | assumption | omega) (by first | assumption | omega) (Nat.le_of_ble_eq_true rfl) ?_
      refine s_checkState (b := false) (by omega) (fun h => by cases h) (fun _ q => x_out (by decide) (hX2 hcd q))
    · exact absurd (by simpa using h8) hne
end Drop
