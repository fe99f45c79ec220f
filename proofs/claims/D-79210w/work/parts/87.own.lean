set_option maxRecDepth 100000
/-! LISTS OF A PLAN GROW -/
section
variable {G : Gl} {H H' : AH} {O : Nat → Nat} {l L n e e' : Nat} {xs ys : Nat → Nat}
theorem own_add (hL : LsO G H L n xs e) (ow : OwL H O l L e) (hK : Ks (SL L e) H H') (he : e' = e ∨ kd H e' = 0) (z : kd H' (gSt G 1) = 0) : Stq G (fun b => O b = l) H O H' (rlb O H l) ∧ OwL H' (rlb O H l) l L e' := by
  refine ⟨Stq.rl _ (hK.mono (fun b hb q => ?_)) z, by rw [rlb_n (by rw [hL.1]; decide)]; exact ow.1, fun k => ?_⟩
  · rcases q with q | q
    · rw [q]
      exact ow.1
    · rw [q] at hb ⊢
      exact ow.2 hb
  · by_cases h0 : kd H e' = 0
    · exact rlb_f h0
    · rw [rlb_n h0]
      rcases he with he | he
      · rw [he] at h0 ⊢
        exact ow.2 h0
      · exact absurd he h0
/-- what a list's own cells are not -/
theorem sl_ne (hL : LsO G H L n xs e) (z : kd H (gSt G 1) = 0) : ∀ b, kd H b ≠ 20 → kd H b ≠ 4096 → kd H b ≠ 0 → ¬ SL L e b := by
  intro b h1 h2 h3 q
  rcases q with q | q
  · rw [q] at h1
    exact h1 hL.1
  · rcases hL.2.2.2.2 with k | k
    · rw [q, k.1] at h3
      exact h3 z
    · rw [q] at h2
      exact h2 k.1
theorem sl_nel (hL : LsO G H L n xs e) (z : kd H (gSt G 1) = 0) {b : Nat} (h1 : b ≠ L) (h2 : kd H b ≠ 4096) (h3 : kd H b ≠ 0) : ¬ SL L e b := by
  intro q
  rcases q with q | q
  · exact h1 q
  · rcases hL.2.2.2.2 with k | k
    · rw [q, k.1] at h3
      exact h3 z
    · rw [q] at h2
      exact h2 k.1
theorem upA_i {α : Type} {f : Nat → α} {n i : Nat} {x : α} (h : i ≠ n) : upA f n x i = f i := by unfold upA; rw [if_neg h]
theorem vup_n {f : Nat → Nat} {n x : Nat} : va_up f n x n = x := by unfold va_up; rw [if_pos rfl]
theorem vup_o {f : Nat → Nat} {n i x : Nat} (h : i ≠ n) : va_up f n x i = f i := by unfold va_up; rw [if_neg h]
/-! trays -/
theorem TrX.add {tv : Nat → TV} {tr tc tf tu : Nat → Nat} {a c f u : Nat} (h : TrX G H O l L n tv e tr tc tf tu) (z0 : kd H (gSt G 1) = 0) (hn : n < 12) (hK : Ks (SL L e) H H') (he : e' = e ∨ kd H e' = 0) (hL' : LsO G H' L (n + 1) (va_up tr n a) e') (z : kd H' (gSt G 1) = 0) (hT : TrO H a c f u (tv n)) (o1 : O a = l) (o2 : O c = l) (o3 : O f = l) (o4 : O u = l) (hd : ∀ i, i < n → tc i ≠ c ∧ tf i ≠ f ∧ tu i ≠ u) :
    Stq G (fun b => O b = l) H O H' (rlb O H l) ∧ TrX G H' (rlb O H l) l L (n + 1) tv e' (va_up tr n a) (upA tc n c) (upA tf n f) (upA tu n u) := by
  obtain ⟨a1, a2, a3, a4, a5⟩ := h
  obtain ⟨s, w⟩ := own_add a1 a3 hK he z
  have hne := sl_ne a1 z0
  have hx : ∀ {a c f u : Nat} {v : TV}, TrO H a c f u v → O a = l → O c = l → O f = l → O u = l → TrO H' a c f u v ∧ rlb O H l a = l ∧ rlb O H l c = l ∧ rlb O H l f = l ∧ rlb O H l u = l := by
    intro a c f u v hT o1 o2 o3 o4
    obtain ⟨n1, n2, n3, n4⟩ := hT.nz
    have hT0 := hT
    obtain ⟨b1, -, -, -, -, -, -, -, b9, b10, b11, -⟩ := hT
    exact ⟨hT0.ks hK (hne a (by rw [b1]; decide) (by rw [b1]; decide) n1) (hne c (by rw [b9]; decide) (by rw [b9]; decide) n2) (hne f (by rw [b10]; decide) (by rw [b10]; decide) n3) (hne u (by rw [b11]; decide) (by rw [b11]; decide) n4), (rlb_n n1).trans o1, (rlb_n n2).trans o2, (rlb_n n3).trans o3, (rlb_n n4).trans o4⟩
  refine ⟨s, hL', by omega, w, fun t ht => ?_, fun i j hi hj q => ?_⟩
  · by_cases htn : t = n
    · rw [htn, vup_n, upA_n, upA_n, upA_n]
      exact hx hT o1 o2 o3 o4
    · rw [vup_o htn, upA_i htn, upA_i htn, upA_i htn]
      obtain ⟨b1, b2, b3, b4, b5⟩ := a4 t (by omega)
      exact hx b1 b2 b3 b4 b5
  · by_cases hin : i = n
    · by_cases hjn : j = n
      · rw [hin, hjn]
      · rw [hin, upA_n, upA_n, upA_n, upA_i hjn, upA_i hjn, upA_i hjn] at q
        obtain ⟨d1, d2, d3⟩ := hd j (by omega)
        rcases q with q | q | q
        · exact absurd q.symm d1
        · exact absurd q.symm d2
        · exact absurd q.symm d3
    · by_cases hjn : j = n
      · rw [hjn, upA_n, upA_n, upA_n, upA_i hin, upA_i hin, upA_i hin] at q
        obtain ⟨d1, d2, d3⟩ := hd i (by omega)
        rcases q with q | q | q
        · exact absurd q d1
        · exact absurd q d2
        · exact absurd q d3
      · rw [upA_i hin, upA_i hin, upA_i hin, upA_i hjn, upA_i hjn, upA_i hjn] at q
        exact a5 i j (by omega) (by omega) q
/-! drums -/
theorem DrX.add {dv : Nat → Nat → Int32} {dr : Nat → Nat} {a : Nat} (h : DrX G H O l L n dv e dr) (z0 : kd H (gSt G 1) = 0) (hn : n < 10) (hK : Ks (SL L e) H H') (he : e' = e ∨ kd H e' = 0) (hL' : LsO G H' L (n + 1) (va_up dr n a) e') (z : kd H' (gSt G 1) = 0) (hT : DrO H a (dv n 0) (dv n 2) (dv n 1)) (o1 : O a = l) (hd : ∀ i, i < n → dr i ≠ a) :
    Stq G (fun b => O b = l) H O H' (rlb O H l) ∧ DrX G H' (rlb O H l) l L (n + 1) dv e' (va_up dr n a) := by
  obtain ⟨a1, a2, a3, a4, a5⟩ := h
  obtain ⟨s, w⟩ := own_add a1 a3 hK he z
  have hne := sl_ne a1 z0
  have hx : ∀ {a : Nat} {x y w : Int32}, DrO H a x y w → O a = l → DrO H' a x y w ∧ rlb O H l a = l := by
    intro a x y w hT o1
    have b1 := hT.1
    exact ⟨hT.ks hK (hne a (by rw [b1]; decide) (by rw [b1]; decide) (by rw [b1]; decide)), (rlb_n (by rw [b1]; decide)).trans o1⟩
  refine ⟨s, hL', by omega, w, fun t ht => ?_, fun i j hi hj q => ?_⟩
  · by_cases htn : t = n
    · rw [htn, vup_n]
      exact hx hT o1
    · rw [vup_o htn]
      obtain ⟨b1, b2⟩ := a4 t (by omega)
      exact hx b1 b2
  · by_cases hin : i = n
    · by_cases hjn : j = n
      · rw [hin, hjn]
      · rw [hin, vup_n, vup_o hjn] at q
        exact absurd q.symm (hd j (by omega))
    · by_cases hjn : j = n
      · rw [hjn, vup_n, vup_o hin] at q
        exact absurd q (hd i (by omega))
      · rw [vup_o hin, vup_o hjn] at q
        exact a5 i j (by omega) (by omega) q
/-! cables -/
theorem CaX.add {cv : Nat → Nat → Int32} {ca rl re : Nat → Nat} {st : Nat → Nat → Nat} {a r r2 : Nat} {s2 : Nat → Nat} (h : CaX G H O l L n cv e ca rl re st) (z0 : kd H (gSt G 1) = 0) (hn : n < 12) (hK : Ks (SL L e) H H') (he : e' = e ∨ kd H e' = 0) (hL' : LsO G H' L (n + 1) (va_up ca n a) e') (z : kd H' (gSt G 1) = 0) (hT : CaO G H a r r2 s2 (cv n 4).toNatClampNeg (cv n)) (o1 : O a = l) (o2 : OwL H O l r r2) (o3 : ∀ i, i < (cv n 4).toNatClampNeg → O (s2 i) = 0) (hl0 : l ≠ 0) (hd : ∀ i, i < n → ca i ≠ a ∧ rl i ≠ r ∧ (kd H r2 ≠ 0 → re i ≠ r2)) (hr : r ≠ L) (hr2 : kd H r2 ≠ 0 → r2 ≠ e) :
    Stq G (fun b => O b = l) H O H' (rlb O H l) ∧ CaX G H' (rlb O H l) l L (n + 1) cv e' (va_up ca n a) (upA rl n r) (upA re n r2) (upA st n s2) := by
  obtain ⟨a1, a2, a3, a4, a5, a6⟩ := h
  obtain ⟨s, w⟩ := own_add a1 a3 hK he z
  have hne := sl_ne a1 z0
  have hx : ∀ {a r r2 k : Nat} {s2 : Nat → Nat} {v : Nat → Int32}, CaO G H a r r2 s2 k v → O a = l → OwL H O l r r2 → (∀ i, i < k → O (s2 i) = 0) → r ≠ L → (kd H r2 ≠ 0 → r2 ≠ e) → CaO G H' a r r2 s2 k v ∧ rlb O H l a = l ∧ OwL H' (rlb O H l) l r r2 ∧ ∀ i, i < k → rlb O H l (s2 i) = 0 := by
    intro a r r2 k s2 v hT o1 o2 o3 hr hr2
    have b1 := hT.1.1
    have b2 := hT.2.2.2.1
    have b3 := hT.2.2.2.2
    refine ⟨hT.ks hK (hne a (by rw [b1]; decide) (by rw [b1]; decide) (by rw [b1]; decide)) (sl_nel a1 z0 hr (by rw [b2.1]; decide) (by rw [b2.1]; decide)) (fun k q => ?_) (fun i hi => hne _ (by rw [(b3 i hi).1]; decide) (by rw [(b3 i hi).1]; decide) (by rw [(b3 i hi).1]; decide)), (rlb_n (by rw [b1]; decide)).trans o1, o2.ks b2 s, fun i hi => (rlb_n (by rw [(b3 i hi).1]; decide)).trans (o3 i hi)⟩
    rcases q with q | q
    · rw [q, a1.1] at k
      exact absurd k (by decide)
    · exact hr2 (by rw [k]; decide) q
  have hez : ∀ {a r r2 k : Nat} {s2 : Nat → Nat} {v : Nat → Int32}, CaO G H a r r2 s2 k v → kd H' r2 ≠ 0 → kd H r2 ≠ 0 := fun hT q => hT.2.2.2.1.ez s q
  have hee : ∀ {x : Nat}, kd H x ≠ 0 → x ≠ e → x ≠ e' := fun hx h1 h2 => by
    rcases he with he | he
    · exact h1 (h2.trans he)
    · rw [h2] at hx
      exact hx he
  refine ⟨s, hL', by omega, w, fun t ht => ?_, fun i j hi hj q => ?_, fun i hi => ?_⟩
  · by_cases htn : t = n
    · rw [htn, vup_n, upA_n, upA_n, upA_n]
      exact hx hT o1 o2 o3 hr hr2
    · rw [vup_o htn, upA_i htn, upA_i htn, upA_i htn]
      obtain ⟨b1, b2, b3, b4⟩ := a4 t (by omega)
      exact hx b1 b2 b3 b4 (a6 t (by omega)).1 (a6 t (by omega)).2
  · by_cases hin : i = n
    · by_cases hjn : j = n
      · rw [hin, hjn]
      · rw [hin, vup_n, upA_n, upA_n, vup_o hjn, upA_i hjn, upA_i hjn] at q
        obtain ⟨d1, d2, d3⟩ := hd j (by omega)
        rcases q with q | q | q
        · exact absurd q.symm d1
        · exact absurd q.symm d2
        · exact absurd q.2.symm (d3 (hez hT q.1))
    · by_cases hjn : j = n
      · rw [hjn, vup_n, upA_n, upA_n, vup_o hin, upA_i hin, upA_i hin] at q
        obtain ⟨d1, d2, d3⟩ := hd i (by omega)
        rcases q with q | q | q
        · exact absurd q d1
        · exact absurd q d2
        · have k := hez (a4 i (by omega)).1 q.1
          exact absurd q.2 (d3 (by rw [← q.2]; exact k))
      · rw [vup_o hin, vup_o hjn, upA_i hin, upA_i hin, upA_i hjn, upA_i hjn] at q
        refine a5 i j (by omega) (by omega) (q.imp (fun h => h) (fun q => q.imp (fun h => h) (fun q => ⟨hez (a4 i (by omega)).1 q.1, q.2⟩)))
  · by_cases hin : i = n
    · rw [hin, upA_n, upA_n]
      exact ⟨hr, fun q => hee (hez hT q) (hr2 (hez hT q))⟩
    · rw [upA_i hin, upA_i hin]
      have k := a6 i (by omega)
      exact ⟨k.1, fun q => hee (hez (a4 i (by omega)).1 q) (k.2 (hez (a4 i (by omega)).1 q))⟩
end
