set_option maxRecDepth 100000
theorem isN_mono {g : Nat → Int32} {i b b' : Nat} (h : isN g i b) (hb : b ≤ b') : isN g i b' := ⟨h.1, Nat.lt_of_lt_of_le h.2 hb⟩
theorem IG_g0 : IG g0 := by
  have z : ∀ i, 2 ≤ i → g0 i = nI 0 := by
    intro i hi
    unfold g0
    rw [if_neg (by omega), if_neg (by omega)]
  have n : ∀ i, 2 ≤ i → nat g0 i = 0 := by
    intro i hi
    unfold nat
    rw [z i hi]
    rfl
  have k : ∀ i b, 2 ≤ i → 0 < b → isN g0 i b := fun i b hi hb => (isN_of (z i hi) hb (by decide)).1
  refine ⟨⟨k _ _ (by decide) (by decide), k _ _ (by decide) (by decide), k _ _ (by decide) (by decide), k _ _ (by decide) (by decide), ?_, ?_⟩, ?_, ?_, ?_, ?_, ?_, ⟨?_, ?_, ?_⟩, ⟨?_, ?_⟩, ?_, ?_, ?_⟩
  · intro t ht; rw [n _ (by decide)] at ht; omega
  · intro t ht; rw [n _ (by decide)] at ht; omega
  · intro t ht; rw [n _ (by decide)] at ht; omega
  · intro t ht; rw [n _ (by decide)] at ht; omega
  · intro t ht; rw [n _ (by decide)] at ht; omega
  · intro t ht; rw [n _ (by decide)] at ht; omega
  · intro i hi; exact z i (by omega)
  · exact (isN_of (n := 20) rfl (by decide) (by decide)).1
  · exact (isN_of (n := 2) rfl (by decide) (by decide)).1
  · intro t ht; rw [n _ (by decide)] at ht; omega
  · intro t ht; rw [n _ (by decide)] at ht; omega
  · intro y w _ ht; rw [n _ (by decide)] at ht; omega
  · intro t ht; rw [n _ (by decide)] at ht; omega
  · intro t ht; rw [n _ (by decide)] at ht; omega
  · intro t ht; rw [n _ (by decide)] at ht; omega
theorem walkP_cg {g g' : Nat → Int32} : ∀ (l : List Nat) (p : Nat), (∀ t, t ∈ l → g' (41 + 5 * t) = g (41 + 5 * t) ∧ g' (42 + 5 * t) = g (42 + 5 * t)) → walkP g' p l = walkP g p l := by
  intro l
  induction l with
  | nil => intro p _; rfl
  | cons t l ih =>
    intro p h
    obtain ⟨a, b⟩ := h t List.mem_cons_self
    have e : ed g' t p = ed g t p := by
      unfold ed
      rw [nat_eq a, nat_eq b]
    unfold walkP
    rw [e]
    cases ed g t p with
    | none => rfl
    | some o => exact ih o (fun x hx => h x (List.mem_cons_of_mem _ hx))
theorem GB_ag2 {g g' : Nat → Int32} (hB : GB g) (hY : Ag g g' 3 4) (hT : Ag g g' 40 101) (hC : Ag g g' 101 354) (hD : isN g' 354 11) : GB g' := by
  have h := GB_ag (g' := upd g' 354 (g 354)) hB (fun i h1 h2 => by rw [upd_n (by omega)]; exact hY i h1 h2) (fun i h1 h2 => by rw [upd_n (by omega)]; exact hT i h1 h2) (fun i h1 h2 => by rw [upd_n (by omega)]; exact hC i h1 h2) (fun i h1 h2 => by rw [show i = 354 by omega, upd_s])
  obtain ⟨b1, b2, b3, -, b5, b6⟩ := h
  have hC2 := b3.2
  have hR2 := b2.2
  have u : ∀ i, i ≠ 354 → g' i = upd g' 354 (g 354) i := fun i hi => (upd_n hi).symm
  have n3 : nat g' 3 = nat (upd g' 354 (g 354)) 3 := nat_eq (u 3 (by decide))
  have n40 : nat g' 40 = nat (upd g' 354 (g 354)) 40 := nat_eq (u 40 (by decide))
  have n101 : nat g' 101 = nat (upd g' 354 (g 354)) 101 := nat_eq (u 101 (by decide))
  refine ⟨isN_eq (u 3 (by decide)) b1, isN_eq (u 40 (by decide)) b2, isN_eq (u 101 (by decide)) b3, hD, ?_, ?_⟩
  · intro t ht
    rw [n40] at ht
    have e := u (45 + 5 * t) (by omega)
    rw [nat_eq e]
    exact ⟨isN_eq e (b5 t ht).1, (b5 t ht).2⟩
  · intro c hc
    rw [n101] at hc
    obtain ⟨d1, d2, d3⟩ := b6 c hc
    have := d2.2
    rw [n3, n40, nat_eq (u (106 + 21 * c) (by omega))]
    exact ⟨isN_eq (u _ (by omega)) d1, isN_eq (u _ (by omega)) d2, fun k hk => isN_eq (u _ (by omega)) (d3 k hk)⟩
theorem IG_drum {g : Nat → Int32} {y r : Int32} (h : IG g) (hc : c_addDrum g y r = 0) : IG (drumG g y r) := by
  obtain ⟨i1, i2, i3, i4, i5, i6, i7, i8, i9, i10, i11⟩ := h
  unfold c_addDrum at hc
  have hr : inB r (nI 0) (nI 999) = true ∧ nat g 354 ≠ 10 := by
    split at hc
    · cases hc
    · split at hc
      · cases hc
      · rename_i h2
        split at hc
        · cases hc
        · rename_i h3
          exact ⟨by simpa using h2, h3⟩
  obtain ⟨hr1, hr2⟩ := hr
  obtain ⟨j, hj, rfl, -⟩ := inB_c hr1 (by omega)
  have hD := i1.2.2.2.1.2
  obtain ⟨D, hDe⟩ := ex_val (nat g 354)
  have low : ∀ i, i < 354 → drumG g y (nI j) i = g i := by
    intro i hi
    unfold drumG
    rw [upd_n (by omega), upd_n (by omega), upd_n (by omega), upd_n (by omega)]
  have v354 : drumG g y (nI j) 354 = nI (D + 1) := by
    unfold drumG
    rw [upd_s, hDe]
  have n354 : nat (drumG g y (nI j)) 354 = D + 1 := (isN_of (b := 20) v354 (by omega) (by omega)).2
  have ag : ∀ a b, b ≤ 354 → Ag g (drumG g y (nI j)) a b := fun a b hb i _ hi => low i (by omega)
  refine ⟨GB_ag2 i1 (ag _ _ (by omega)) (ag _ _ (by omega)) (ag _ _ (by omega)) (isN_of v354 (by omega) (by omega)).1, GT_ag i1 i2 (ag _ _ (by omega)), GC_ag i1 i3 (ag _ _ (by omega)), GA_ag i1 i4 (ag _ _ (by omega)), ?_, ?_, GV_ag i1 i7 (isN_eq (low 0 (by omega)) i7.1) (isN_eq (low 1 (by omega)) i7.2.1) (ag _ _ (by omega)), GY_ag i1 i8 (ag _ _ (by omega)), GS_ag i1 i9 (ag _ _ (by omega)), GR_ag i1 i10 (ag _ _ (by omega)) (ag _ _ (by omega)), GK_ag i1 i11 (Or.inl (ag _ _ (by omega))) (ag _ _ (by omega))⟩
  · intro x hx
    rw [n354] at hx
    by_cases hxd : x = D
    · have v : drumG g y (nI j) (356 + 3 * x) = nI j := by
        unfold drumG
        rw [upd_n (by omega), upd_n (by omega), hxd, hDe, show 356 + 3 * nat g 354 = 355 + 3 * nat g 354 + 1 by omega, upd_s]
      exact (isN_of v (by omega) (by omega)).1
    · refine isN_eq ?_ (i5 x (by omega))
      unfold drumG
      rw [upd_n (by omega), upd_n (by omega), upd_n (by omega), upd_n (by omega)]
  · intro i hi
    unfold drumG
    rw [upd_n (by omega), upd_n (by omega), upd_n (by omega), upd_n (by omega)]
    exact i6 i hi
theorem inB_1 {v : Int32} {a n : Nat} (h : inB v (nI a) (nI n) = true) (ha : a < 65536) (hn : n < 65536) : ∃ j, a ≤ j ∧ j ≤ n ∧ v = nI j := by
  have h1 := h
  unfold inB at h1
  rw [decide_eq_true_iff] at h1
  have h0 : inB v (nI 0) (nI n) = true := by
    unfold inB
    rw [decide_eq_true_iff]
    exact ⟨Int32.le_trans (nI_le (Nat.zero_le _) (by omega)) h1.1, h1.2⟩
  obtain ⟨j, hj, rfl, -⟩ := inB_c h0 hn
  exact ⟨j, (nI_leI (by omega) (by omega)).mp h1.1, hj, rfl⟩
theorem IG_tray {g : Nat → Int32} {p q l a k : Int32} (h : IG g) (hc : c_addTray g p q l a k = 0) : IG (trayG g p q l a k) := by
  obtain ⟨i1, i2, i3, i4, i5, i6, i7, i8, i9, i10, i11⟩ := h
  have hcc : (inB p (nI 0) (nI 7) = true ∧ inB q (nI 0) (nI 7) = true) ∧ (p ≠ q ∧ inB l (nI 1) (nI 99) = true ∧ inB a (nI 10) (nI 999) = true ∧ inB k (nI 1) (nI 3) = true) ∧ nat g 40 ≠ 12 := by
    unfold c_addTray at hc
    split at hc
    · cases hc
    · rename_i h1
      split at hc
      · cases hc
      · rename_i h2
        split at hc
        · cases hc
        · rename_i h3
          rw [not_or] at h2
          simp only [Bool.and_eq_false_iff, not_or, Bool.not_eq_false] at h1 h2
          exact ⟨h1, ⟨h2.1, h2.2.1.1, h2.2.1.2, h2.2.2⟩, h3⟩
  obtain ⟨⟨hp, hq⟩, ⟨hpq, hl, ha, hk⟩, hR12⟩ := hcc
  obtain ⟨p, hp2, rfl, -⟩ := inB_c hp (by omega)
  obtain ⟨q, hq2, rfl, -⟩ := inB_c hq (by omega)
  obtain ⟨l, hl1, hl2, rfl⟩ := inB_1 hl (by omega) (by omega)
  obtain ⟨a, ha1, ha2, rfl⟩ := inB_1 ha (by omega) (by omega)
  obtain ⟨k, hk1, hk2, rfl⟩ := inB_1 hk (by omega) (by omega)
  have hpq' : p ≠ q := fun e => hpq (by rw [e])
  have hR := i1.2.1.2
  have hC2 := i1.2.2.1.2
  obtain ⟨R, hRe⟩ := ex_val (nat g 40)
  obtain ⟨G, hG⟩ := ex_val (trayG g (nI p) (nI q) (nI l) (nI a) (nI k))
  rw [← hG]
  have out : ∀ i, i ≠ 40 → ¬ (41 + 5 * R ≤ i ∧ i < 46 + 5 * R) → G i = g i := by
    intro i h1 h2
    rw [hG]
    unfold trayG
    rw [← hRe, upd_n h1, upd_n (by omega), upd_n (by omega), upd_n (by omega), upd_n (by omega), upd_n (by omega)]
  have v40 : G 40 = nI (R + 1) := by rw [hG]; unfold trayG; rw [upd_s, hRe]
  have v0 : G (41 + 5 * R) = nI p := by
    rw [hG]; unfold trayG
    rw [← hRe, upd_n (by omega), upd_n (by omega), upd_n (by omega), upd_n (by omega), upd_n (by omega), upd_s]
  have v1 : G (42 + 5 * R) = nI q := by
    rw [hG]; unfold trayG
    rw [← hRe, upd_n (by omega), upd_n (by omega), upd_n (by omega), upd_n (by omega), show 42 + 5 * R = 41 + 5 * R + 1 by omega, upd_s]
  have v2 : G (43 + 5 * R) = nI l := by
    rw [hG]; unfold trayG
    rw [← hRe, upd_n (by omega), upd_n (by omega), upd_n (by omega), show 43 + 5 * R = 41 + 5 * R + 2 by omega, upd_s]
  have v3 : G (44 + 5 * R) = nI a := by
    rw [hG]; unfold trayG
    rw [← hRe, upd_n (by omega), upd_n (by omega), show 44 + 5 * R = 41 + 5 * R + 3 by omega, upd_s]
  have v4 : G (45 + 5 * R) = nI k := by
    rw [hG]; unfold trayG
    rw [← hRe, upd_n (by omega), show 45 + 5 * R = 41 + 5 * R + 4 by omega, upd_s]
  have n40 : nat G 40 = R + 1 := (isN_of (b := 20) v40 (by omega) (by omega)).2
  have agY : Ag g G 3 40 := fun i h1 h2 => out i (by omega) (by omega)
  have agC : Ag g G 101 354 := fun i h1 h2 => out i (by omega) (by omega)
  have agD : Ag g G 354 385 := fun i h1 h2 => out i (by omega) (by omega)
  have tr : ∀ t w, t < R → w < 5 → G (41 + 5 * t + w) = g (41 + 5 * t + w) := fun t w h1 h2 => out _ (by omega) (by omega)
  obtain ⟨b1, b2, b3, b4, b5, b6⟩ := i1
  have i1' : GB g := ⟨b1, b2, b3, b4, b5, b6⟩
  refine ⟨⟨agY.i (by omega) (by omega) b1, (isN_of v40 (by omega) (by omega)).1, agC.i (by omega) (by omega) b3, agD.i (by omega) (by omega) b4, ?_, ?_⟩, ?_, GC_ag i1' i3 agC, GA_ag i1' i4 agC, GD_ag i1' i5 agD, ?_, ⟨?_, ?_, ?_⟩, GY_ag i1' i8 agY, GS_ag i1' i9 agC, ?_, GK_ag i1' i11 (Or.inl (fun i h1 h2 => agY i (by omega) h2)) agC⟩
  · intro t ht
    rw [n40] at ht
    by_cases htR : t = R
    · subst htR
      obtain ⟨x1, x2⟩ := isN_of (b := 4) v4 (by omega) (by omega)
      exact ⟨x1, by omega⟩
    · have e := tr t 4 (by omega) (by omega)
      rw [show 41 + 5 * t + 4 = 45 + 5 * t by omega] at e
      rw [nat_eq e]
      exact ⟨isN_eq e (b5 t (by omega)).1, (b5 t (by omega)).2⟩
  · intro c hc
    rw [agC.n (by omega) (by omega)] at hc
    obtain ⟨d1, d2, d3⟩ := b6 c hc
    have := d2.2
    rw [agY.n (i := 3) (by omega) (by omega), n40, agC.n (i := 106 + 21 * c) (by omega) (by omega)]
    exact ⟨agC.i (by omega) (by omega) d1, agC.i (by omega) (by omega) d2, fun k hk => isN_mono (agC.i (by omega) (by omega) (d3 k hk)) (by omega)⟩
  · intro t ht
    rw [n40] at ht
    by_cases htR : t = R
    · subst htR
      obtain ⟨x1, x2⟩ := isN_of (b := 8) v0 (by omega) (by omega)
      obtain ⟨y1, y2⟩ := isN_of (b := 8) v1 (by omega) (by omega)
      exact ⟨x1, y1, by rw [x2, y2]; exact hpq'⟩
    · obtain ⟨x, y, z⟩ := i2 t (by omega)
      have e := tr t 0 (by omega) (by omega)
      have e1 := tr t 1 (by omega) (by omega)
      rw [show 41 + 5 * t + 0 = 41 + 5 * t by omega] at e
      rw [show 41 + 5 * t + 1 = 42 + 5 * t by omega] at e1
      rw [nat_eq e, nat_eq e1]
      exact ⟨isN_eq e x, isN_eq e1 y, z⟩
  · intro i hi
    rw [out i (by omega) (by omega)]
    exact i6 i hi
  · exact isN_eq (out 0 (by omega) (by omega)) i7.1
  · exact isN_eq (out 1 (by omega) (by omega)) i7.2.1
  · intro t ht
    rw [n40] at ht
    by_cases htR : t = R
    · subst htR
      obtain ⟨x1, x2⟩ := isN_of (b := 100) v2 (by omega) (by omega)
      obtain ⟨y1, y2⟩ := isN_of (b := 1000) v3 (by omega) (by omega)
      exact ⟨x1, y1, by rw [y2]; exact ha1⟩
    · obtain ⟨x, y, z⟩ := i7.2.2 t (by omega)
      have e := tr t 2 (by omega) (by omega)
      have e1 := tr t 3 (by omega) (by omega)
      rw [show 41 + 5 * t + 2 = 43 + 5 * t by omega] at e
      rw [show 41 + 5 * t + 3 = 44 + 5 * t by omega] at e1
      rw [nat_eq e1]
      exact ⟨isN_eq e x, isN_eq e1 y, z⟩
  · intro c hc
    rw [agC.n (by omega) (by omega)] at hc
    obtain ⟨x, y, z⟩ := i10 c hc
    obtain ⟨-, d2, d3⟩ := b6 c hc
    have := d2.2
    rw [agC (105 + 21 * c) (by omega) (by omega), stepsL_ag i1' hc agC, agC.n (i := 103 + 21 * c) (by omega) (by omega), agC.n (i := 104 + 21 * c) (by omega) (by omega), agC.n (i := 106 + 21 * c) (by omega) (by omega), walkP_cg _ _ (fun t ht => by
      have := stepsL_lt i1' hc t ht
      exact ⟨out _ (by omega) (by omega), out _ (by omega) (by omega)⟩)]
    refine ⟨x, y, ?_⟩
    intro k hk
    have hs := (d3 k hk).2
    rw [agC.n (i := 109 + 21 * c + k) (by omega) (by omega), nat_eq (out (45 + 5 * nat g (109 + 21 * c + k)) (by omega) (by omega))]
    exact agC.i (by omega) (by omega) (z k hk)
