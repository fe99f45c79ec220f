set_option maxRecDepth 100000
theorem nat_eq2 {g g' : Nat → Int32} {i j : Nat} (h : g' i = g j) : nat g' i = nat g j := by
  unfold nat
  rw [h]
theorem isN_eq2 {g g' : Nat → Int32} {i j b : Nat} (h : g' i = g j) (k : isN g j b) : isN g' i b := by
  unfold isN
  rw [nat_eq2 h, h]
  exact k
def dn (t s : Nat) : Nat := if t < s then s - 1 else s
theorem dn_inj {t a b : Nat} (ha : a ≠ t) (hb : b ≠ t) (h : dn t a = dn t b) : a = b := by
  unfold dn at h
  split at h <;> split at h <;> omega
theorem sum0 {f : Nat → Bool} : ∀ n, ((List.range n).map (fun c => if f c then 2 ^ c else 0)).sum = 0 → ∀ c, c < n → f c = false := by
  intro n
  induction n with
  | zero => intro _ c h; omega
  | succ n ih =>
    intro h c hc
    rw [List.range_succ, List.map_append, List.sum_append] at h
    simp only [List.map_cons, List.map_nil, List.sum_cons, List.sum_nil] at h
    by_cases e : c = n
    · subst e
      cases hf : f c with
      | false => rfl
      | true =>
        rw [hf] at h
        have := Nat.two_pow_pos c
        simp only [if_true] at h
        omega
    · exact ih (by omega) c (by omega)
theorem drop_free {g : Nat → Int32} (hB : GB g) {t : Nat} (h : q_set g (nI t) = 0) : ∀ c, c < nat g 101 → ∀ k, k < nat g (106 + 21 * c) → g (109 + 21 * c + k) ≠ nI t := by
  obtain ⟨h1, h2⟩ := q_set_N hB (nI t)
  have h0 : q_setN g (nI t) = 0 := (nI_eq (by omega) (by omega)).mp (h1.symm.trans h)
  intro c hc k hk e
  have hs := sum0 (f := fun c => (q_step g c (nI t)).isSome) _ h0 c hc
  unfold q_step at hs
  cases hf : find9 (fun k => g (109 + 21 * c + k) == nI t) 0 (nat g (106 + 21 * c)) with
  | none =>
    have := find9_none hf (Nat.zero_le k) (by omega)
    rw [e, beq_self_eq_true] at this
    cases this
  | some j => rw [hf] at hs; cases hs
theorem IG_drop {g : Nat → Int32} {t : Nat} (h : IG g) (ht : t < nat g 40) (h0 : q_set g (nI t) = 0) : IG (dropG g t) := by
  obtain ⟨i1, i2, i3, i4, i5, i6, i7, i8, i9, i10, i11⟩ := h
  have hfree := drop_free i1 h0
  obtain ⟨G, hG⟩ := ex_val (dropG g t)
  rw [← hG]
  have i1' := i1
  obtain ⟨b1, b2, b3, b4, b5, b6⟩ := i1
  have hC2 := b3.2
  have hR2 := b2.2
  obtain ⟨R, hR⟩ := ex_val (nat g 40)
  rw [← hR] at ht hR2
  unfold dropG at hG
  rw [← hR] at hG
  have v40 : G 40 = nI (R - 1) := by rw [hG]; unfold dropF; rw [if_pos rfl, hR]
  have n40 : nat G 40 = R - 1 := (isN_of (b := 20) v40 (by omega) (by omega)).2
  have low : ∀ i, i ≠ 40 → i < 41 + 5 * t → G i = g i := by
    intro i h1 h2
    rw [hG]; unfold dropF
    rw [if_neg h1, if_neg (by omega), if_neg (fun q => by
      obtain ⟨q1, -⟩ := q
      unfold stepIx at q1
      rw [decide_eq_true_iff] at q1
      omega)]
  have sh : ∀ i, 41 + 5 * t ≤ i → i < 41 + 5 * (R - 1) → G i = g (i + 5) := by
    intro i h1 h2
    rw [hG]; unfold dropF
    rw [if_neg (by omega), if_pos ⟨h1, h2⟩]
  have nos : ∀ i, 101 ≤ i → stepIx g i = false → G i = g i := by
    intro i h1 h2
    rw [hG]; unfold dropF
    rw [if_neg (by omega), if_neg (by omega), if_neg (fun q => by rw [h2] at q; exact absurd q.1 (by decide))]
  have cw : ∀ c w, c < nat g 101 → w < 21 → (w < 7 ∨ 14 ≤ w) → G (102 + 21 * c + w) = g (102 + 21 * c + w) := by
    intro c w hc hw h7
    refine nos _ (by omega) ?_
    rw [stepIx_of i1' hc hw]
    have := (b6 c hc).2.1.2
    rw [decide_eq_false]
    omega
  have o101 : G 101 = g 101 := nos 101 (by omega) (by unfold stepIx; simp)
  have n101 : nat G 101 = nat g 101 := nat_eq2 o101
  have hi : ∀ i, 354 ≤ i → G i = g i := by
    intro i h1
    refine nos i (by omega) ?_
    unfold stepIx
    rw [decide_eq_false]
    omega
  have tr : ∀ s w, s < R → s ≠ t → w < 5 → G (41 + 5 * dn t s + w) = g (41 + 5 * s + w) := by
    intro s w hs hst hw
    unfold dn
    by_cases h : t < s
    · rw [if_pos h, sh _ (by omega) (by omega), show 41 + 5 * (s - 1) + w + 5 = 41 + 5 * s + w by omega]
    · rw [if_neg h, low _ (by omega) (by omega)]
  have dlt : ∀ s, s < R → s ≠ t → dn t s < R - 1 := by
    intro s hs hst
    unfold dn
    split <;> omega
  have back : ∀ t', t' < R - 1 → ∃ s, s < R ∧ s ≠ t ∧ dn t s = t' := by
    intro t' h'
    by_cases h : t' < t
    · exact ⟨t', by omega, by omega, by unfold dn; rw [if_neg (by omega)]⟩
    · exact ⟨t' + 1, by omega, by omega, by unfold dn; rw [if_pos (by omega), Nat.add_sub_cancel]⟩
  have c6 : ∀ c, c < nat g 101 → G (106 + 21 * c) = g (106 + 21 * c) := by
    intro c hc
    have := cw c 4 hc (by omega) (by omega)
    rw [show 102 + 21 * c + 4 = 106 + 21 * c by omega] at this
    exact this
  have sne : ∀ c, c < nat g 101 → ∀ k, k < nat g (106 + 21 * c) → nat g (109 + 21 * c + k) < R ∧ nat g (109 + 21 * c + k) ≠ t ∧ G (109 + 21 * c + k) = nI (dn t (nat g (109 + 21 * c + k))) := by
    intro c hc k hk
    obtain ⟨e1, e2⟩ := (b6 c hc).2.2 k hk
    rw [← hR] at e2
    have h8 := (b6 c hc).2.1.2
    have hf := hfree c hc k hk
    obtain ⟨s, hs⟩ := ex_val (nat g (109 + 21 * c + k))
    rw [← hs] at e1 e2 ⊢
    have hst : s ≠ t := fun e => hf (by rw [e1, e])
    refine ⟨e2, hst, ?_⟩
    have ix : stepIx g (109 + 21 * c + k) = true := by
      rw [show 109 + 21 * c + k = 102 + 21 * c + (7 + k) by omega, stepIx_of i1' hc (by omega), decide_eq_true_iff]
      omega
    rw [hG]; unfold dropF
    rw [if_neg (by omega), if_neg (by omega), if_pos ⟨ix, by omega⟩]
    unfold dcV dn
    rw [e1]
    by_cases h : t < s
    · rw [if_pos (nI_lt h (by omega)), if_pos h, pk_sub (by omega)]
    · rw [if_neg (fun q => h ((nI_ltI (by omega) (by omega)).mp q)), if_neg h]
      rw [pk_sub (Nat.zero_le _)]
      rfl
  have st : ∀ c, c < nat g 101 → stepsL G c = (stepsL g c).map (dn t) := by
    intro c hc
    unfold stepsL
    rw [nat_eq2 (c6 c hc), List.map_map]
    refine List.map_congr_left ?_
    intro k hk
    rw [List.mem_range] at hk
    obtain ⟨s1, s2, s3⟩ := sne c hc k hk
    have := dlt _ s1 s2
    exact (isN_of (b := 20) s3 (by omega) (by omega)).2
  have mem : ∀ c, c < nat g 101 → ∀ s, s ∈ stepsL g c → s < R ∧ s ≠ t := by
    intro c hc s hs
    unfold stepsL at hs
    rw [List.mem_map] at hs
    obtain ⟨k, hk, rfl⟩ := hs
    rw [List.mem_range] at hk
    obtain ⟨s1, s2, -⟩ := sne c hc k hk
    exact ⟨s1, s2⟩
  have nd : ∀ c, c < nat G 101 → (stepsL G c).Nodup := by
    intro c hc
    rw [n101] at hc
    rw [st c hc]
    have := (i10 c hc).2.1
    unfold List.Nodup at this ⊢
    rw [List.pairwise_map]
    refine List.Pairwise.imp_of_mem ?_ this
    intro a b ha hb hab e
    exact hab (dn_inj (mem c hc a ha).2 (mem c hc b hb).2 e)
  have wk : ∀ (l : List Nat) (p : Nat), (∀ s, s ∈ l → s < R ∧ s ≠ t) → walkP G p (l.map (dn t)) = walkP g p l := by
    intro l
    induction l with
    | nil => intro p _; rfl
    | cons s l ih =>
      intro p hl
      obtain ⟨s1, s2⟩ := hl s List.mem_cons_self
      have e0 := tr s 0 s1 s2 (by omega)
      have e1 := tr s 1 s1 s2 (by omega)
      rw [show 41 + 5 * dn t s + 0 = 41 + 5 * dn t s by omega, show 41 + 5 * s + 0 = 41 + 5 * s by omega] at e0
      rw [show 41 + 5 * dn t s + 1 = 42 + 5 * dn t s by omega, show 41 + 5 * s + 1 = 42 + 5 * s by omega] at e1
      have he : ed G (dn t s) p = ed g s p := by
        unfold ed
        rw [nat_eq2 e0, nat_eq2 e1]
      rw [List.map_cons]
      unfold walkP
      rw [he]
      cases ed g s p with
      | none => rfl
      | some o => exact ih o (fun x hx => hl x (List.mem_cons_of_mem _ hx))
  have agY : Ag g G 3 40 := fun i h1 h2 => low i (by omega) (by omega)
  have agD : Ag g G 354 385 := fun i h1 h2 => hi i h1
  refine ⟨⟨agY.i (by omega) (by omega) b1, (isN_of v40 (by omega) (by omega)).1, isN_eq2 o101 b3, agD.i (by omega) (by omega) b4, ?_, ?_⟩, ?_, ?_, ?_, GD_ag i1' i5 agD, ?_, ⟨isN_eq2 (low 0 (by omega) (by omega)) i7.1, isN_eq2 (low 1 (by omega) (by omega)) i7.2.1, ?_⟩, GY_ag i1' i8 agY, ?_, ?_, GK_of2 ?_ nd⟩
  · intro t' h'
    rw [n40] at h'
    obtain ⟨s, s1, s2, rfl⟩ := back t' h'
    have e := tr s 4 s1 s2 (by omega)
    rw [show 41 + 5 * dn t s + 4 = 45 + 5 * dn t s by omega, show 41 + 5 * s + 4 = 45 + 5 * s by omega] at e
    obtain ⟨x, y⟩ := b5 s (by omega)
    unfold isN
    rw [nat_eq2 e, e]
    exact ⟨x, y⟩
  · intro c hc
    rw [n101] at hc
    obtain ⟨d1, d2, d3⟩ := b6 c hc
    have e0 := cw c 0 hc (by omega) (by omega)
    rw [show 102 + 21 * c + 0 = 102 + 21 * c by omega] at e0
    rw [agY.n (i := 3) (by omega) (by omega), n40, nat_eq2 (c6 c hc)]
    refine ⟨isN_eq2 e0 d1, isN_eq2 (c6 c hc) d2, ?_⟩
    intro k hk
    obtain ⟨s1, s2, s3⟩ := sne c hc k hk
    exact (isN_of s3 (dlt _ s1 s2) (by have := dlt _ s1 s2; omega)).1
  · intro t' h'
    rw [n40] at h'
    obtain ⟨s, s1, s2, rfl⟩ := back t' h'
    have e0 := tr s 0 s1 s2 (by omega)
    have e1 := tr s 1 s1 s2 (by omega)
    rw [show 41 + 5 * dn t s + 0 = 41 + 5 * dn t s by omega, show 41 + 5 * s + 0 = 41 + 5 * s by omega] at e0
    rw [show 41 + 5 * dn t s + 1 = 42 + 5 * dn t s by omega, show 41 + 5 * s + 1 = 42 + 5 * s by omega] at e1
    obtain ⟨x, y, z⟩ := i2 s (by omega)
    unfold isN
    rw [nat_eq2 e0, nat_eq2 e1, e0, e1]
    exact ⟨x, y, z⟩
  · intro c hc
    rw [n101] at hc
    have e1 := cw c 1 hc (by omega) (by omega)
    have e2 := cw c 2 hc (by omega) (by omega)
    rw [show 102 + 21 * c + 1 = 103 + 21 * c by omega] at e1
    rw [show 102 + 21 * c + 2 = 104 + 21 * c by omega] at e2
    obtain ⟨x, y, z⟩ := i3 c hc
    rw [nat_eq2 e1, nat_eq2 e2]
    exact ⟨isN_eq2 e1 x, isN_eq2 e2 y, z⟩
  · intro c hc hs
    rw [n101] at hc
    have e3 := cw c 3 hc (by omega) (by omega)
    rw [show 102 + 21 * c + 3 = 105 + 21 * c by omega] at e3
    rw [e3] at hs
    rw [nat_eq2 (c6 c hc)]
    exact i4 c hc hs
  · intro i h1
    rw [hi i (by omega)]
    exact i6 i h1
  · intro t' h'
    rw [n40] at h'
    obtain ⟨s, s1, s2, rfl⟩ := back t' h'
    have e0 := tr s 2 s1 s2 (by omega)
    have e1 := tr s 3 s1 s2 (by omega)
    rw [show 41 + 5 * dn t s + 2 = 43 + 5 * dn t s by omega, show 41 + 5 * s + 2 = 43 + 5 * s by omega] at e0
    rw [show 41 + 5 * dn t s + 3 = 44 + 5 * dn t s by omega, show 41 + 5 * s + 3 = 44 + 5 * s by omega] at e1
    obtain ⟨x, y, z⟩ := i7.2.2 s (by omega)
    rw [nat_eq2 e1]
    exact ⟨isN_eq2 e0 x, by unfold isN; rw [nat_eq2 e1, e1]; exact y, z⟩
  · intro c hc
    rw [n101] at hc
    have e3 := cw c 3 hc (by omega) (by omega)
    have e5 := cw c 5 hc (by omega) (by omega)
    have e6 := cw c 6 hc (by omega) (by omega)
    rw [show 102 + 21 * c + 3 = 105 + 21 * c by omega] at e3
    rw [show 102 + 21 * c + 5 = 107 + 21 * c by omega] at e5
    rw [show 102 + 21 * c + 6 = 108 + 21 * c by omega] at e6
    obtain ⟨x, y⟩ := i9 c hc
    rw [e3, e5, e6]
    exact ⟨isN_eq2 e3 x, y⟩
  · intro c hc
    have hnd := nd c hc
    rw [n101] at hc
    have e1 := cw c 1 hc (by omega) (by omega)
    have e2 := cw c 2 hc (by omega) (by omega)
    have e3 := cw c 3 hc (by omega) (by omega)
    rw [show 102 + 21 * c + 1 = 103 + 21 * c by omega] at e1
    rw [show 102 + 21 * c + 2 = 104 + 21 * c by omega] at e2
    rw [show 102 + 21 * c + 3 = 105 + 21 * c by omega] at e3
    obtain ⟨x, y, z⟩ := i10 c hc
    refine ⟨?_, hnd, ?_⟩
    · rw [e3, st c hc, nat_eq2 e1, nat_eq2 e2, wk _ _ (mem c hc)]
      exact x
    · intro k hk
      rw [nat_eq2 (c6 c hc)] at hk
      have h8 := (b6 c hc).2.1.2
      obtain ⟨s1, s2, s3⟩ := sne c hc k hk
      have hd := dlt _ s1 s2
      have e := tr _ 4 s1 s2 (show 4 < 5 by omega)
      rw [show ∀ q, 41 + 5 * q + 4 = 45 + 5 * q from fun q => by omega, show ∀ q, 41 + 5 * q + 4 = 45 + 5 * q from fun q => by omega] at e
      rw [(isN_of (b := 20) s3 (by omega) (by omega)).2, nat_eq2 e]
      have ek := cw c (14 + k) hc (by omega) (by omega)
      rw [show 102 + 21 * c + (14 + k) = 116 + 21 * c + k by omega] at ek
      exact isN_eq2 ek (z k hk)
  · have tg : ∀ t1 k c, c < nat g 101 → q_in G t1 k c = true → ∃ s, s < R ∧ s ≠ t ∧ t1 = nI (dn t s) ∧ q_in g (nI s) k c = true := by
      intro t1 k c hc q
      obtain ⟨j, a1, a2, a3⟩ := q_in_at q
      rw [nat_eq2 (c6 c hc)] at a1
      have h8 := (b6 c hc).2.1.2
      obtain ⟨s1, s2, s3⟩ := sne c hc j a1
      have ek := cw c (14 + j) hc (by omega) (by omega)
      rw [show 102 + 21 * c + (14 + j) = 116 + 21 * c + j by omega] at ek
      refine ⟨_, s1, s2, by rw [← a2, s3], ?_⟩
      have hq := q_in_of (i10 c hc).2.1 a1
      rw [((b6 c hc).2.2 j a1).1, ← ek, a3] at hq
      exact hq
    have cl : ∀ c, c < nat g 101 → cls G c = cls g c := by
      intro c hc
      have hy := (b6 c hc).1.2
      have := b1.2
      have e0 := cw c 0 hc (by omega) (by omega)
      rw [show 102 + 21 * c + 0 = 102 + 21 * c by omega] at e0
      unfold cls
      rw [nat_eq2 e0, low _ (by omega) (by omega)]
    intro t1 k c1 c2 h1 h2 q1 q2
    rw [n101] at h1 h2
    rw [cl c1 h1, cl c2 h2]
    obtain ⟨s, s1, s2, s3, s4⟩ := tg t1 k c1 h1 q1
    obtain ⟨u, u1, u2, u3, u4⟩ := tg t1 k c2 h2 q2
    have d1 := dlt s s1 s2
    have d2 := dlt u u1 u2
    have e : s = u := dn_inj s2 u2 ((nI_eq (by omega) (by omega)).mp (s3.symm.trans u3))
    rw [← e] at u4
    exact GK_2 i11 (nI s) k c1 c2 h1 h2 s4 u4
