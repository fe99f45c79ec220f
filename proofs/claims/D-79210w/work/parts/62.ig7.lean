set_option maxRecDepth 100000
theorem place_ok {g : Nat → Int32} {t ty x : Nat} (h : q_place g t ty = some x) : q_class g (nI t) (nI x) = g (8 + 6 * ty) ∨ q_class g (nI t) (nI x) < 0 := by
  unfold q_place at h
  split at h
  · rename_i k hk
    cases h
    have := (find9_lt hk).2.2
    rw [Bool.and_eq_true] at this
    exact Or.inl (eq_of_beq this.1)
  · have := (find9_lt h).2.2
    rw [Bool.and_eq_true] at this
    exact Or.inr (of_decide_eq_true this.2)
theorem IG_route {g : Nat → Int32} {c0 : Nat} {r : List Nat} (h : IG g) (hc0 : c0 < nat g 101) (hr : GoodR g (opB g (some (nat g (102 + 21 * c0)))) (nat g (103 + 21 * c0)) (nat g (104 + 21 * c0)) r) : IG (routeG g c0 r) := by
  obtain ⟨i1, i2, i3, i4, i5, i6, i7, i8, i9, i10, i11⟩ := h
  have hGB := GB_route i1 hc0 hr
  obtain ⟨r0, l7, hall, hwalk, hnd⟩ := hr
  obtain ⟨ty, hty⟩ := ex_val (nat g (102 + 21 * c0))
  obtain ⟨G, hG⟩ := ex_val (routeG g c0 r)
  rw [← hG] at hGB ⊢
  rw [← hty] at hall
  have i1' := i1
  obtain ⟨b1, b2, b3, b4, b5, b6⟩ := i1
  have hC2 := b3.2
  have hR2 := b2.2
  have out : ∀ i, ¬ (105 + 21 * c0 ≤ i ∧ i < 107 + 21 * c0) → ¬ (109 + 21 * c0 ≤ i ∧ i < 123 + 21 * c0) → G i = g i := by
    intro i h1 h2
    rw [hG]; unfold routeG
    rw [if_neg (by omega), if_neg (by omega), if_neg (by omega), if_neg (by omega)]
  have v5 : G (105 + 21 * c0) = nI 1 := by rw [hG]; unfold routeG; rw [if_pos rfl]
  have v6 : G (106 + 21 * c0) = nI r.length := by rw [hG]; unfold routeG; rw [if_neg (by omega), if_pos rfl]
  have vs : ∀ k, k < r.length → G (109 + 21 * c0 + k) = nI (r.getD k 0) := by
    intro k hk
    rw [hG]; unfold routeG
    rw [if_neg (by omega), if_neg (by omega), if_pos (by omega), Nat.add_sub_cancel_left]
  have vl : ∀ k, k < r.length → G (116 + 21 * c0 + k) = oI (q_place g (r.getD k 0) ty) := by
    intro k hk
    rw [hG]; unfold routeG
    rw [if_neg (by omega), if_neg (by omega), if_neg (by omega), if_pos (by omega), Nat.add_sub_cancel_left, hty]
  have n6 : nat G (106 + 21 * c0) = r.length := (isN_of (b := 8) v6 (by omega) (by omega)).2
  have ag : ∀ a b, b ≤ 105 ∨ 354 ≤ a → Ag g G a b := fun a b hb i h1 h2 => out i (by omega) (by omega)
  have n101 : nat G 101 = nat g 101 := nat_eq (out 101 (by omega) (by omega))
  have oc : ∀ c, c ≠ c0 → ∀ w, w < 21 → G (102 + 21 * c + w) = g (102 + 21 * c + w) := fun c hc w hw => out _ (by omega) (by omega)
  have oc6 : ∀ c, c ≠ c0 → G (106 + 21 * c) = g (106 + 21 * c) := fun c hc => out _ (by omega) (by omega)
  have st : ∀ c, c < nat g 101 → c ≠ c0 → stepsL G c = stepsL g c := fun c hc hne => stepsL_c (b6 c hc).2.1.2 (oc6 c hne) (fun w _ hw => oc c hne w hw)
  have nr : ∀ k, k < r.length → nat G (109 + 21 * c0 + k) = r.getD k 0 := by
    intro k hk
    have := (hall _ (getD_mem hk)).1
    exact (isN_of (b := 20) (vs k hk) (by omega) (by omega)).2
  have st0 : stepsL G c0 = r := by
    unfold stepsL
    rw [n6]
    apply List.ext_getElem
    · simp
    · intro k h1 h2
      rw [List.getElem_map, List.getElem_range, nr k h2, List.getD_eq_getElem?_getD, List.getElem?_eq_getElem h2]
      rfl
  have nd : ∀ c, c < nat G 101 → (stepsL G c).Nodup := by
    intro c hc
    rw [n101] at hc
    by_cases e : c = c0
    · rw [e, st0]; exact hnd
    · rw [st c hc e]; exact (i10 c hc).2.1
  have pl : ∀ k, k < r.length → ∃ x, q_place g (r.getD k 0) ty = some x ∧ x < nat g (45 + 5 * r.getD k 0) ∧ r.getD k 0 < nat g 40 := by
    intro k hk
    obtain ⟨h1, h2⟩ := hall _ (getD_mem hk)
    have h3 : (q_place g (r.getD k 0) ty).isSome = true := h2
    cases hp : q_place g (r.getD k 0) ty with
    | none => rw [hp] at h3; cases h3
    | some x => exact ⟨x, rfl, place_lt hp, h1⟩
  have cl : ∀ c, c < nat g 101 → cls G c = cls g c := by
    intro c hc
    have hy := (b6 c hc).1.2
    have := b1.2
    unfold cls
    rw [nat_eq (out (102 + 21 * c) (by omega) (by omega)), out _ (by omega) (by omega)]
  have ne1 : (nI 1 : Int32) ≠ 0 := by decide
  refine ⟨hGB, GT_ag i1' i2 (ag _ _ (by omega)), ?_, ?_, GD_ag i1' i5 (ag _ _ (by omega)), ?_, GV_ag i1' i7 (isN_eq (out 0 (by omega) (by omega)) i7.1) (isN_eq (out 1 (by omega) (by omega)) i7.2.1) (ag _ _ (by omega)), GY_ag i1' i8 (ag _ _ (by omega)), ?_, ?_, GK_of2 ?_ nd⟩
  · intro c hc
    rw [n101] at hc
    obtain ⟨x, y, z⟩ := i3 c hc
    have e3 := out (103 + 21 * c) (by omega) (by omega)
    have e4 := out (104 + 21 * c) (by omega) (by omega)
    rw [nat_eq e3, nat_eq e4]
    exact ⟨isN_eq e3 x, isN_eq e4 y, z⟩
  · intro c hc hs
    rw [n101] at hc
    by_cases e : c = c0
    · subst e
      exact absurd (v5.symm.trans hs) ne1
    · rw [out _ (by omega) (by omega)] at hs
      rw [nat_eq (oc6 c e)]
      exact i4 c hc hs
  · intro i hi
    rw [out i (by omega) (by omega)]
    exact i6 i hi
  · intro c hc
    rw [n101] at hc
    by_cases e : c = c0
    · subst e
      exact ⟨(isN_of v5 (by omega) (by omega)).1, fun q => absurd (v5.symm.trans q) ne1⟩
    · obtain ⟨x, y⟩ := i9 c hc
      rw [out (105 + 21 * c) (by omega) (by omega), out (107 + 21 * c) (by omega) (by omega), out (108 + 21 * c) (by omega) (by omega)]
      exact ⟨isN_eq (out (105 + 21 * c) (by omega) (by omega)) x, y⟩
  · intro c hc
    have hnd9 := nd c hc
    rw [n101] at hc
    refine ⟨?_, hnd9, ?_⟩
    · by_cases e : c = c0
      · subst e
        intro _
        rw [st0, nat_eq (out (103 + 21 * c) (by omega) (by omega)), nat_eq (out (104 + 21 * c) (by omega) (by omega)), walkP_ag (ag _ _ (by omega)) _ _ (fun t ht => by have := (hall t ht).1; omega)]
        exact hwalk
      · rw [out (105 + 21 * c) (by omega) (by omega), st c hc e, nat_eq (out (103 + 21 * c) (by omega) (by omega)), nat_eq (out (104 + 21 * c) (by omega) (by omega)), walkP_ag (ag _ _ (by omega)) _ _ (fun t ht => by have := stepsL_lt i1' hc t ht; omega)]
        exact (i10 c hc).1
    · by_cases e : c = c0
      · subst e
        intro k hk
        rw [n6] at hk
        obtain ⟨x, p1, p2, p3⟩ := pl k hk
        rw [nr k hk, nat_eq (out (45 + 5 * r.getD k 0) (by omega) (by omega))]
        have hv := vl k hk
        rw [p1] at hv
        have := (b5 _ p3).1.2
        exact (isN_of (n := x) hv p2 (by omega)).1
      · intro k hk
        rw [nat_eq (oc6 c e)] at hk
        obtain ⟨-, d2, d3⟩ := b6 c hc
        have := d2.2
        have hs := (d3 k hk).2
        rw [nat_eq (out (109 + 21 * c + k) (by omega) (by omega)), nat_eq (out (45 + 5 * nat g (109 + 21 * c + k)) (by omega) (by omega))]
        exact isN_eq (out _ (by omega) (by omega)) ((i10 c hc).2.2 k hk)
  · have tr : ∀ t k c, c < nat g 101 → c ≠ c0 → q_in G t k c = true → q_in g t k c = true := by
      intro t k c hc hne q
      rw [q_in_c (b6 c hc).2.1.2 (oc6 c hne) (fun w _ hw => oc c hne w hw)] at q
      exact q
    have own : ∀ t k c2, c2 < nat g 101 → q_in G t k c0 = true → q_in g t k c2 = true → cls g c0 = cls g c2 := by
      intro t k c2 h2 q0 q2
      obtain ⟨j, a1, a2, a3⟩ := q_in_at q0
      rw [n6] at a1
      obtain ⟨x, p1, p2, p3⟩ := pl j a1
      rw [vs j a1] at a2
      rw [vl j a1, p1] at a3
      have a3' : nI x = k := a3
      subst a2
      subst a3'
      have hcl := q_class_of (GK_2 i11) h2 q2
      rcases place_ok p1 with e | e
      · rw [hcl] at e
        unfold cls at e ⊢
        rw [← hty]
        exact e.symm
      · rw [hcl] at e
        have hy := (b6 c2 h2).1.2
        obtain ⟨z1, z2⟩ := (i8.1 _ hy).2.2.2.1
        unfold cls at e
        rw [z1] at e
        exact absurd e (nI_pos (by omega))
    intro t k c1 c2 h1 h2 q1 q2
    rw [n101] at h1 h2
    rw [cl c1 h1, cl c2 h2]
    by_cases e1 : c1 = c0
    · by_cases e2 : c2 = c0
      · rw [e1, e2]
      · rw [e1] at q1 ⊢
        exact own t k c2 h2 q1 (tr t k c2 h2 e2 q2)
    · by_cases e2 : c2 = c0
      · rw [e2] at q2 ⊢
        exact (own t k c1 h1 q2 (tr t k c1 h1 e1 q1)).symm
      · exact GK_2 i11 t k c1 c2 h1 h2 (tr t k c1 h1 e1 q1) (tr t k c2 h2 e2 q2)
