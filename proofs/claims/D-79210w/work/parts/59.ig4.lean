set_option maxRecDepth 100000
def sumF (f : Nat → Nat) : Nat → Nat
  | 0 => 0
  | n + 1 => sumF f n + f n
theorem sumN_nI {F : Nat → Int32} {f : Nat → Nat} : ∀ n, (∀ k, k < n → F k = nI (f k)) → sumN F n = nI (sumF f n) := by
  intro n
  induction n with
  | zero => intro _; rfl
  | succ n ih =>
    intro h
    unfold sumN sumF
    rw [ih (fun k hk => h k (by omega)), h n (by omega), nI_add]
theorem sumF_le {f : Nat → Nat} {b : Nat} : ∀ n, (∀ k, k < n → f k ≤ b) → sumF f n ≤ b * n := by
  intro n
  induction n with
  | zero => intro _; exact Nat.le_refl _
  | succ n ih =>
    intro h
    have h1 := ih (fun k hk => h k (by omega))
    have h2 := h n (by omega)
    unfold sumF
    rw [Nat.mul_succ]
    omega
theorem GN_of {g : Nat → Int32} (h : IG g) : GN g := by
  obtain ⟨i1, -, -, -, -, -, i7, -⟩ := h
  intro c hc
  obtain ⟨-, d2, d3⟩ := i1.2.2.2.2.2 c hc
  have hlen : q_len g c = nI (sumF (fun k => nat g (43 + 5 * nat g (109 + 21 * c + k))) (nat g (106 + 21 * c))) := by
    unfold q_len
    refine sumN_nI _ (fun k hk => ?_)
    exact (i7.2.2 _ (d3 k hk).2).1.1
  have hle := sumF_le (f := fun k => nat g (43 + 5 * nat g (109 + 21 * c + k))) (b := 99) (nat g (106 + 21 * c)) (fun k hk => by
    have := (i7.2.2 _ (d3 k hk).2).1.2
    show nat g (43 + 5 * nat g (109 + 21 * c + k)) ≤ 99
    omega)
  have h8 := d2.2
  obtain ⟨t1, t2⟩ := i7.2.1
  have e : q_need g c = nI (sumF (fun k => nat g (43 + 5 * nat g (109 + 21 * c + k))) (nat g (106 + 21 * c)) + 2 * nat g 1) := by
    unfold q_need
    rw [hlen, t1, pk_mul, nI_add]
  have e2 : qn g c = sumF (fun k => nat g (43 + 5 * nat g (109 + 21 * c + k))) (nat g (106 + 21 * c)) + 2 * nat g 1 := by
    unfold qn
    rw [e]
    exact nI_clamp (by omega)
  rw [e2]
  exact ⟨e, by omega⟩
theorem cutN_ok {g : Nat → Int32} {ty need : Int32} : ∀ (n f : Nat), (cutN g ty need n).1 = some f → need ≤ g (356 + 3 * f) := by
  intro n
  induction n with
  | zero => intro f h; cases h
  | succ n ih =>
    intro f h
    unfold cutN cutS at h
    split at h
    · dsimp only at h
      repeat' split at h
      all_goals first
        | exact ih f h
        | (rename_i hh; cases h; exact hh.1)
        | (cases h; rename_i hh; exact hh.1)
    · exact ih f h
theorem IG_cut {g : Nat → Int32} {c0 f : Nat} (h : IG g) (hc0 : c0 < nat g 101) (hs1 : g (105 + 21 * c0) = nI 1) (hf : (cutN g (g (102 + 21 * c0)) (q_need g c0) (nat g 354)).1 = some f) : IG (cutG g c0 f (q_need g c0)) := by
  obtain ⟨hq1, hq2⟩ := GN_of h c0 hc0
  have hfl := cutN_lt _ _ hf
  have hok := cutN_ok _ _ hf
  obtain ⟨i1, i2, i3, i4, i5, i6, i7, i8, i9, i10, i11⟩ := h
  obtain ⟨nd, hnd⟩ := ex_val (qn g c0)
  rw [← hnd] at hq1 hq2
  rw [hq1] at hok ⊢
  obtain ⟨x1, x2⟩ := i5 f hfl
  obtain ⟨rs, hrs⟩ := ex_val (nat g (356 + 3 * f))
  rw [← hrs] at x1 x2
  rw [x1] at hok
  have hle := (nI_leI (by omega) (by omega)).mp hok
  obtain ⟨G, hG⟩ := ex_val (cutG g c0 f (nI nd))
  rw [← hG]
  have i1' := i1
  obtain ⟨b1, b2, b3, b4, b5, b6⟩ := i1
  have hC2 := b3.2
  have hR2 := b2.2
  have hD2 := b4.2
  have out : ∀ i, i ≠ 105 + 21 * c0 → i ≠ 107 + 21 * c0 → i ≠ 108 + 21 * c0 → i ≠ 356 + 3 * f → G i = g i := by
    intro i h1 h2 h3 h4
    rw [hG]
    unfold cutG
    rw [upd_n (by omega), upd_n (by omega), upd_n (by omega), upd_n (by omega)]
  have v5 : G (105 + 21 * c0) = nI 2 := by
    rw [hG]; unfold cutG
    rw [upd_n (by omega), upd_n (by omega), show 105 + 21 * c0 = 102 + 21 * c0 + 3 by omega, upd_s]
  have vD : G (356 + 3 * f) = nI (rs - nd) := by
    rw [hG]; unfold cutG
    rw [upd_n (by omega), upd_n (by omega), upd_n (by omega), show 356 + 3 * f = 355 + 3 * f + 1 by omega, upd_s, show 355 + 3 * f + 1 = 356 + 3 * f by omega, x1, pk_sub hle]
  have ag : ∀ a b, b ≤ 105 → Ag g G a b := fun a b hb i h1 h2 => out i (by omega) (by omega) (by omega) (by omega)
  have n101 : nat G 101 = nat g 101 := nat_eq (out 101 (by omega) (by omega) (by omega) (by omega))
  have ne1 : (nI 1 : Int32) ≠ 0 := by decide
  have ne2 : (nI 2 : Int32) ≠ 0 := by decide
  have oc : ∀ c, c < 12 → ∀ w, w < 21 → w ≠ 3 → w ≠ 5 → w ≠ 6 → G (102 + 21 * c + w) = g (102 + 21 * c + w) := fun c hc w hw h3 h5 h6 => out _ (by omega) (by omega) (by omega) (by omega)
  have oc6 : ∀ c, c < 12 → G (106 + 21 * c) = g (106 + 21 * c) := fun c hc => out _ (by omega) (by omega) (by omega) (by omega)
  have st : ∀ c, c < nat g 101 → stepsL G c = stepsL g c := fun c hc => stepsL_c (b6 c hc).2.1.2 (oc6 c (by omega)) (fun w h7 hw => oc c (by omega) w hw (by omega) (by omega) (by omega))
  have qi : ∀ c, c < nat g 101 → ∀ t k, q_in G t k c = q_in g t k c := fun c hc t k => q_in_c (b6 c hc).2.1.2 (oc6 c (by omega)) (fun w h7 hw => oc c (by omega) w hw (by omega) (by omega) (by omega))
  have nd' : ∀ c, c < nat G 101 → (stepsL G c).Nodup := by
    intro c hc
    rw [n101] at hc
    rw [st c hc]
    exact (i10 c hc).2.1
  have s0 : ∀ c, c < nat g 101 → (G (105 + 21 * c) = 0 ↔ g (105 + 21 * c) = 0) := by
    intro c hc
    by_cases e : c = c0
    · subst e
      rw [v5, hs1]
      exact ⟨fun q => absurd q ne2, fun q => absurd q ne1⟩
    · rw [out _ (by omega) (by omega) (by omega) (by omega)]
  refine ⟨⟨(ag 3 4 (by omega)).i (by omega) (by omega) b1, (ag 40 41 (by omega)).i (by omega) (by omega) b2, isN_eq (out 101 (by omega) (by omega) (by omega) (by omega)) b3, isN_eq (out 354 (by omega) (by omega) (by omega) (by omega)) b4, ?_, ?_⟩, GT_ag i1' i2 (ag _ _ (by omega)), ?_, ?_, ?_, ?_, GV_ag i1' i7 (isN_eq (ag 0 1 (by omega) 0 (by omega) (by omega)) i7.1) (isN_eq (ag 1 2 (by omega) 1 (by omega) (by omega)) i7.2.1) (ag _ _ (by omega)), GY_ag i1' i8 (ag _ _ (by omega)), ?_, ?_, GK_of2 ?_ nd'⟩
  · intro t ht
    rw [(ag 40 41 (by omega)).n (by omega) (by omega)] at ht
    have e := ag 45 101 (by omega) (45 + 5 * t) (by omega) (by omega)
    rw [nat_eq e]
    exact ⟨isN_eq e (b5 t ht).1, (b5 t ht).2⟩
  · intro c hc
    rw [n101] at hc
    obtain ⟨d1, d2, d3⟩ := b6 c hc
    have := d2.2
    rw [(ag 3 4 (by omega)).n (by omega) (by omega), (ag 40 41 (by omega)).n (i := 40) (by omega) (by omega), nat_eq (oc6 c (by omega))]
    refine ⟨isN_eq (out _ (by omega) (by omega) (by omega) (by omega)) d1, isN_eq (oc6 c (by omega)) d2, fun k hk => isN_eq (out _ (by omega) (by omega) (by omega) (by omega)) (d3 k hk)⟩
  · intro c hc
    rw [n101] at hc
    obtain ⟨x, y, z⟩ := i3 c hc
    have e3 := out (103 + 21 * c) (by omega) (by omega) (by omega) (by omega)
    have e4 := out (104 + 21 * c) (by omega) (by omega) (by omega) (by omega)
    rw [nat_eq e3, nat_eq e4]
    exact ⟨isN_eq e3 x, isN_eq e4 y, z⟩
  · intro c hc hs
    rw [n101] at hc
    rw [nat_eq (oc6 c (by omega))]
    exact i4 c hc ((s0 c hc).mp hs)
  · intro x hx
    rw [nat_eq (out 354 (by omega) (by omega) (by omega) (by omega))] at hx
    by_cases e : x = f
    · subst e
      exact (isN_of vD (by omega) (by omega)).1
    · exact isN_eq (out _ (by omega) (by omega) (by omega) (by omega)) (i5 x hx)
  · intro i hi
    rw [out i (by omega) (by omega) (by omega) (by omega)]
    exact i6 i hi
  · intro c hc
    rw [n101] at hc
    obtain ⟨x, y⟩ := i9 c hc
    by_cases e : c = c0
    · subst e
      exact ⟨(isN_of v5 (by omega) (by omega)).1, fun q => absurd (v5.symm.trans q) ne2⟩
    · rw [out (105 + 21 * c) (by omega) (by omega) (by omega) (by omega), out (107 + 21 * c) (by omega) (by omega) (by omega) (by omega), out (108 + 21 * c) (by omega) (by omega) (by omega) (by omega)]
      exact ⟨isN_eq (out (105 + 21 * c) (by omega) (by omega) (by omega) (by omega)) x, y⟩
  · intro c hc
    have hnd9 := nd' c hc
    rw [n101] at hc
    obtain ⟨x, y, z⟩ := i10 c hc
    refine ⟨?_, hnd9, ?_⟩
    · intro q
      rw [st c hc, nat_eq (out (103 + 21 * c) (by omega) (by omega) (by omega) (by omega)), nat_eq (out (104 + 21 * c) (by omega) (by omega) (by omega) (by omega)), walkP_ag (ag _ _ (by omega)) _ _ (fun t ht => by have := stepsL_lt i1' hc t ht; omega)]
      exact x (fun q2 => q ((s0 c hc).mpr q2))
    · intro k hk
      rw [nat_eq (oc6 c (by omega))] at hk
      obtain ⟨-, d2, d3⟩ := b6 c hc
      have := d2.2
      have hs := (d3 k hk).2
      rw [nat_eq (out (109 + 21 * c + k) (by omega) (by omega) (by omega) (by omega)), nat_eq (out (45 + 5 * nat g (109 + 21 * c + k)) (by omega) (by omega) (by omega) (by omega))]
      exact isN_eq (out _ (by omega) (by omega) (by omega) (by omega)) (z k hk)
  · intro t k c1 c2 h1 h2 q1 q2
    rw [n101] at h1 h2
    rw [qi c1 h1] at q1
    rw [qi c2 h2] at q2
    have cl : ∀ c, c < nat g 101 → cls G c = cls g c := by
      intro c hc
      have hy := (b6 c hc).1.2
      have := b1.2
      unfold cls
      rw [nat_eq (out (102 + 21 * c) (by omega) (by omega) (by omega) (by omega)), out _ (by omega) (by omega) (by omega) (by omega)]
    rw [cl c1 h1, cl c2 h2]
    exact GK_2 i11 t k c1 c2 h1 h2 q1 q2
