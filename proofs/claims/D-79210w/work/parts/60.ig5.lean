set_option maxRecDepth 100000
theorem find9_snoc {p : Nat → Bool} : ∀ (n i : Nat), p (i + n) = false → find9 p i (n + 1) = find9 p i n := by
  intro n
  induction n with
  | zero =>
    intro i h
    unfold find9
    rw [show i + 0 = i by omega] at h
    rw [h]
    rfl
  | succ n ih =>
    intro i h
    show (if p i = true then some i else find9 p (i + 1) (n + 1)) = (if p i = true then some i else find9 p (i + 1) n)
    rw [ih (i + 1) (by rw [show i + 1 + n = i + (n + 1) by omega]; exact h)]
theorem IG_cable {g : Nat → Int32} {y p q : Int32} (h : IG g) (hc : c_addCable g y p q = 0) : IG (cableG g y p q) := by
  obtain ⟨i1, i2, i3, i4, i5, i6, i7, i8, i9, i10, i11⟩ := h
  have hcc : (isY g y = true ∧ inB p (nI 0) (nI 7) = true ∧ inB q (nI 0) (nI 7) = true) ∧ p ≠ q ∧ nat g 101 ≠ 12 := by
    unfold c_addCable at hc
    split at hc
    · cases hc
    · rename_i h1
      split at hc
      · cases hc
      · rename_i h2
        split at hc
        · cases hc
        · rename_i h3
          simp only [Bool.and_eq_false_iff, not_or, Bool.not_eq_false] at h1
          exact ⟨⟨h1.1.1, h1.1.2, h1.2⟩, h2, h3⟩
  obtain ⟨⟨hy, hp, hq⟩, hpq, hR12⟩ := hcc
  obtain ⟨y, hy2, rfl, -⟩ := inB_t hy i1.1 (by omega)
  obtain ⟨p, hp2, rfl, -⟩ := inB_c hp (by omega)
  obtain ⟨q, hq2, rfl, -⟩ := inB_c hq (by omega)
  have hpq' : p ≠ q := fun e => hpq (by rw [e])
  have i1' := i1
  obtain ⟨b1, b2, b3, b4, b5, b6⟩ := i1
  have hC2 := b3.2
  have hR2 := b2.2
  have hY2 := b1.2
  obtain ⟨C, hCe⟩ := ex_val (nat g 101)
  obtain ⟨G, hG⟩ := ex_val (cableG g (nI y) (nI p) (nI q))
  rw [← hG]
  have zr : ∀ i, ¬ (102 + 21 * C ≤ i ∧ i < 123 + 21 * C) → zeroC g C 21 i = g i := by
    intro i hi
    unfold zeroC
    rw [if_neg (by omega)]
  have zi : ∀ i, 102 + 21 * C ≤ i → i < 123 + 21 * C → zeroC g C 21 i = nI 0 := by
    intro i h1 h2
    unfold zeroC
    rw [if_pos (by omega)]
  have out : ∀ i, i ≠ 101 → ¬ (102 + 21 * C ≤ i ∧ i < 123 + 21 * C) → G i = g i := by
    intro i h1 h2
    rw [hG]
    unfold cableG
    rw [← hCe, upd_n h1, upd_n (by omega), upd_n (by omega), upd_n (by omega), upd_n (by omega), zr i h2]
  have v101 : G 101 = nI (C + 1) := by rw [hG]; unfold cableG; rw [upd_s, hCe]
  have w0 : G (102 + 21 * C) = nI y := by
    rw [hG]; unfold cableG
    rw [← hCe, upd_n (by omega), upd_n (by omega), upd_n (by omega), upd_n (by omega), show 102 + 21 * C = 102 + 21 * C + 0 by omega, upd_s]
  have w1 : G (103 + 21 * C) = nI p := by
    rw [hG]; unfold cableG
    rw [← hCe, upd_n (by omega), upd_n (by omega), upd_n (by omega), show 103 + 21 * C = 102 + 21 * C + 1 by omega, upd_s]
  have w2 : G (104 + 21 * C) = nI q := by
    rw [hG]; unfold cableG
    rw [← hCe, upd_n (by omega), upd_n (by omega), show 104 + 21 * C = 102 + 21 * C + 2 by omega, upd_s]
  have w6 : G (108 + 21 * C) = -1 := by
    rw [hG]; unfold cableG
    rw [← hCe, upd_n (by omega), show 108 + 21 * C = 102 + 21 * C + 6 by omega, upd_s]
  have wz : ∀ i, i = 105 + 21 * C ∨ i = 106 + 21 * C ∨ i = 107 + 21 * C → G i = nI 0 := by
    intro i hi
    rw [hG]; unfold cableG
    rw [← hCe, upd_n (by omega), upd_n (by omega), upd_n (by omega), upd_n (by omega), upd_n (by omega), zi i (by omega) (by omega)]
  have n101 : nat G 101 = C + 1 := (isN_of (b := 20) v101 (by omega) (by omega)).2
  have n6 : nat G (106 + 21 * C) = 0 := (isN_of (b := 8) (wz _ (by omega)) (by omega) (by omega)).2
  have ag : ∀ a b, b ≤ 101 ∨ 354 ≤ a → Ag g G a b := fun a b hb i h1 h2 => out i (by omega) (by omega)
  have oc : ∀ c, c < C → ∀ w, w < 21 → G (102 + 21 * c + w) = g (102 + 21 * c + w) := fun c hc w hw => out _ (by omega) (by omega)
  have oc6 : ∀ c, c < C → G (106 + 21 * c) = g (106 + 21 * c) := fun c hc => out _ (by omega) (by omega)
  have st : ∀ c, c < C → stepsL G c = stepsL g c := fun c hc => stepsL_c (b6 c (by omega)).2.1.2 (oc6 c hc) (fun w _ hw => oc c hc w hw)
  have qi : ∀ c, c < C → ∀ t k, q_in G t k c = q_in g t k c := fun c hc t k => q_in_c (b6 c (by omega)).2.1.2 (oc6 c hc) (fun w _ hw => oc c hc w hw)
  have nd : ∀ c, c < nat G 101 → (stepsL G c).Nodup := by
    intro c hc
    rw [n101] at hc
    by_cases e : c = C
    · rw [e, stepsL_0 n6]; exact List.nodup_nil
    · rw [st c (by omega)]; exact (i10 c (by omega)).2.1
  refine ⟨⟨(ag 3 4 (by omega)).i (by omega) (by omega) b1, (ag 40 41 (by omega)).i (by omega) (by omega) b2, (isN_of v101 (by omega) (by omega)).1, (ag 354 355 (by omega)).i (by omega) (by omega) b4, ?_, ?_⟩, GT_ag i1' i2 (ag _ _ (by omega)), ?_, ?_, GD_ag i1' i5 (ag _ _ (by omega)), ?_, GV_ag i1' i7 (isN_eq (out 0 (by omega) (by omega)) i7.1) (isN_eq (out 1 (by omega) (by omega)) i7.2.1) (ag _ _ (by omega)), GY_ag i1' i8 (ag _ _ (by omega)), ?_, ?_, GK_of2 ?_ nd⟩
  · intro t ht
    rw [(ag 40 41 (by omega)).n (by omega) (by omega)] at ht
    have e := ag 45 101 (by omega) (45 + 5 * t) (by omega) (by omega)
    rw [nat_eq e]
    exact ⟨isN_eq e (b5 t ht).1, (b5 t ht).2⟩
  · intro c hc
    rw [n101] at hc
    rw [(ag 3 4 (by omega)).n (by omega) (by omega), (ag 40 41 (by omega)).n (i := 40) (by omega) (by omega)]
    by_cases e : c = C
    · subst e
      refine ⟨(isN_of w0 hy2 (by omega)).1, (isN_of (wz _ (by omega)) (by omega) (by omega)).1, ?_⟩
      intro k hk
      rw [n6] at hk
      omega
    · obtain ⟨d1, d2, d3⟩ := b6 c (by omega)
      have := d2.2
      rw [nat_eq (oc6 c (by omega))]
      exact ⟨isN_eq (out _ (by omega) (by omega)) d1, isN_eq (out _ (by omega) (by omega)) d2, fun k hk => isN_eq (out _ (by omega) (by omega)) (d3 k hk)⟩
  · intro c hc
    rw [n101] at hc
    by_cases e : c = C
    · subst e
      obtain ⟨x1, x2⟩ := isN_of (b := 8) w1 (by omega) (by omega)
      obtain ⟨y1, y2⟩ := isN_of (b := 8) w2 (by omega) (by omega)
      exact ⟨x1, y1, by rw [x2, y2]; exact hpq'⟩
    · obtain ⟨x, y, z⟩ := i3 c (by omega)
      have e3 := out (103 + 21 * c) (by omega) (by omega)
      have e4 := out (104 + 21 * c) (by omega) (by omega)
      rw [nat_eq e3, nat_eq e4]
      exact ⟨isN_eq e3 x, isN_eq e4 y, z⟩
  · intro c hc hs
    rw [n101] at hc
    by_cases e : c = C
    · rw [e]; exact n6
    · rw [out _ (by omega) (by omega)] at hs
      rw [nat_eq (oc6 c (by omega))]
      exact i4 c (by omega) hs
  · intro i hi
    rw [out i (by omega) (by omega)]
    exact i6 i hi
  · intro c hc
    rw [n101] at hc
    by_cases e : c = C
    · subst e
      exact ⟨(isN_of (wz _ (by omega)) (by omega) (by omega)).1, fun _ => ⟨wz _ (by omega), w6⟩⟩
    · obtain ⟨x, y⟩ := i9 c (by omega)
      rw [out (105 + 21 * c) (by omega) (by omega), out (107 + 21 * c) (by omega) (by omega), out (108 + 21 * c) (by omega) (by omega)]
      exact ⟨isN_eq (out (105 + 21 * c) (by omega) (by omega)) x, y⟩
  · intro c hc
    have hnd := nd c hc
    rw [n101] at hc
    refine ⟨?_, hnd, ?_⟩
    · by_cases e : c = C
      · subst e
        intro q
        exact absurd (wz _ (by omega)) q
      · rw [out (105 + 21 * c) (by omega) (by omega), st c (by omega), nat_eq (out (103 + 21 * c) (by omega) (by omega)), nat_eq (out (104 + 21 * c) (by omega) (by omega)), walkP_ag (ag _ _ (by omega)) _ _ (fun t ht => by have := stepsL_lt i1' (show c < nat g 101 by omega) t ht; omega)]
        exact (i10 c (by omega)).1
    · by_cases e : c = C
      · subst e
        intro k hk
        rw [n6] at hk
        omega
      · intro k hk
        rw [nat_eq (oc6 c (by omega))] at hk
        obtain ⟨-, d2, d3⟩ := b6 c (by omega)
        have := d2.2
        have hs := (d3 k hk).2
        rw [nat_eq (out (109 + 21 * c + k) (by omega) (by omega)), nat_eq (out (45 + 5 * nat g (109 + 21 * c + k)) (by omega) (by omega))]
        exact isN_eq (out _ (by omega) (by omega)) ((i10 c (by omega)).2.2 k hk)
  · intro t k c1 c2 h1 h2 q1 q2
    rw [n101] at h1 h2
    have ne : ∀ c, q_in G t k c = true → c ≠ C := by
      intro c q e
      rw [e, q_in_0 n6] at q
      cases q
    have l1 : c1 < C := by have := ne c1 q1; omega
    have l2 : c2 < C := by have := ne c2 q2; omega
    rw [qi c1 l1] at q1
    rw [qi c2 l2] at q2
    have cl : ∀ c, c < C → cls G c = cls g c := by
      intro c hc
      have hy := (b6 c (by omega)).1.2
      unfold cls
      rw [nat_eq (out (102 + 21 * c) (by omega) (by omega)), out _ (by omega) (by omega)]
    rw [cl c1 l1, cl c2 l2]
    exact GK_2 i11 t k c1 c2 (by omega) (by omega) q1 q2
