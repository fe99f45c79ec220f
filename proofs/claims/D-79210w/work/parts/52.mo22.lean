set_option maxRecDepth 100000
def it0 : Itm := (0, [], [])
def pItems (B : List Nat) : Nat → Nat → List Itm → Option (List Itm) × Nat
  | 0, p, _ => (none, p)
  | k + 1, p, acc => match pItem B p with
    | (none, q) => (none, q)
    | (some it, q) => if inR B q 59 59 = true then pItems B k (q + 1) (acc ++ [it]) else if q = B.length then (some (acc ++ [it]), q) else (none, q)
def pText (B : List Nat) : Option (List Itm) × Nat := pItems B 31 0 []
theorem bnd_some {α β : Type} {r : Option α × Nat} {f : α → Nat → Option β × Nat} {b : β} {q : Nat} (h : bnd r f = (some b, q)) : ∃ a p1, r = (some a, p1) ∧ f a p1 = (some b, q) := by
  obtain ⟨o, p1⟩ := r
  cases o with
  | none => cases h
  | some a => exact ⟨a, p1, rfl, h⟩
def okI (it : Itm) : Prop := it.2.1.length ≤ 3 ∧ (it.1 ≠ 116 → 0 < it.2.1.length) ∧ (∀ b, b ∈ it.2.1 → 97 ≤ b ∧ b ≤ 122) ∧ (it.1 = 107 ∨ it.1 = 116 ∨ it.1 = 99 ∨ it.1 = 100) ∧ ∀ v, v ∈ it.2.2 → v < 1000
theorem tk_lt {B : List Nat} {lo hi p v q : Nat} (h : tk B lo hi p = (some v, q)) (hl : hi < 100 + lo) : v < 100 := by
  unfold tk at h
  cases hi2 : inR B p lo hi with
  | true => rw [hi2] at h; cases h; have := here_c hi2; omega
  | false => rw [hi2] at h; cases h
theorem numLp_lt {B : List Nat} : ∀ (k n p : Nat), (n + 1) * 10 ^ k ≤ 1000 → (numLp B k n p).1 < 1000 := by
  intro k
  induction k with
  | zero => intro n p h; show n < 1000; simp at h; omega
  | succ k ih =>
    intro n p h
    unfold numLp
    by_cases hc : 0 < n ∧ inR B p 48 57 = true
    · rw [if_pos hc]
      have := here_c hc.2
      refine ih _ _ ?_
      obtain ⟨e, he⟩ := ex_val (B.getD p 0 - 48)
      rw [← he]
      have h9 : (10 * n + e + 1) * 10 ^ k ≤ 10 * (n + 1) * 10 ^ k := Nat.mul_le_mul_right _ (by omega)
      have h10 : 10 * (n + 1) * 10 ^ k = (n + 1) * 10 ^ (k + 1) := by rw [Nat.pow_succ, Nat.mul_comm 10 (n + 1), Nat.mul_assoc, Nat.mul_comm 10]
      omega
    · rw [if_neg hc]
      have : (n + 1) * 1 ≤ (n + 1) * 10 ^ (k + 1) := Nat.mul_le_mul_left _ (Nat.pow_pos (by decide))
      show n < 1000
      omega
theorem pNum_lt {B : List Nat} {p v q : Nat} (h : pNum B p = (some v, q)) : v < 1000 := by
  unfold pNum at h
  cases hi2 : inR B p 48 57 with
  | true =>
    rw [hi2] at h
    cases h
    have := here_c hi2
    refine numLp_lt 2 _ _ ?_
    obtain ⟨e, he⟩ := ex_val (B.getD p 0 - 48)
    rw [← he]
    have : e ≤ 9 := by omega
    simp
    omega
  | false => rw [hi2] at h; cases h
theorem namLp_in {B : List Nat} : ∀ (k p i : Nat), p ≤ i → i < namLp B k p → inR B i 97 122 = true := by
  intro k
  induction k with
  | zero => intro p i h1 h2; unfold namLp at h2; omega
  | succ k ih =>
    intro p i h1 h2
    unfold namLp at h2
    cases h : inR B p 97 122 with
    | true =>
      rw [h] at h2
      by_cases hi : i = p
      · rw [hi]; exact h
      · exact ih (p + 1) i (by omega) h2
    | false => rw [h] at h2; simp at h2; omega
theorem pName_ok {B : List Nat} {p q : Nat} {nm : List Nat} (h : pName B p = (some nm, q)) : nm.length ≤ 3 ∧ 0 < nm.length ∧ ∀ b, b ∈ nm → 97 ≤ b ∧ b ≤ 122 := by
  have h0 := pName_some h
  unfold pName at h
  by_cases hc : namLp B 3 p = p
  · rw [if_pos hc] at h; cases h
  · rw [if_neg hc] at h
    have hl := namLp_le (B := B) 3 p
    obtain ⟨E, hE⟩ := ex_val (namLp B 3 p)
    have hin := namLp_in (B := B) 3 p
    rw [← hE] at h hc hl hin
    cases h
    have hlen : ((B.drop p).take (q - p)).length = q - p := nm_len (by omega)
    refine ⟨by rw [hlen]; omega, by rw [hlen]; omega, ?_⟩
    intro b hb
    obtain ⟨k, hk, rfl⟩ := List.getElem_of_mem hb
    rw [hlen] at hk
    have h9 := nm_get (B := B) (p := p) hk
    have h8 := here_c (hin (p + k) (by omega) (by omega))
    rw [List.getD_eq_getElem?_getD, List.getElem?_eq_getElem (by rw [hlen]; exact hk)] at h9
    simp only [Option.getD_some] at h9
    rw [h9]
    omega
theorem pItem_some {B : List Nat} {p q : Nat} {it : Itm} (h : pItem B p = (some it, q)) : q ≤ B.length ∧ p < q ∧ okI it := by
  unfold pItem at h
  split at h
  · unfold pK at h
    obtain ⟨nm, p1, a1, h⟩ := bnd_some h
    obtain ⟨x2, p2, a2, h⟩ := bnd_some h
    obtain ⟨x3, p3, a3, h⟩ := bnd_some h
    obtain ⟨x4, p4, a4, h⟩ := bnd_some h
    obtain ⟨x5, p5, a5, h⟩ := bnd_some h
    have b1 := pName_some a1
    have b2 := tk_some a2
    have b3 := tk_some a3
    have b4 := tk_some a4
    have b5 := pNum_some a5
    have c1 := pName_ok a1
    have c3 := tk_lt a3 (by decide)
    have c5 := pNum_lt a5
    cases h
    refine ⟨by omega, by omega, c1.1, fun _ => c1.2.1, c1.2.2, Or.inl rfl, ?_⟩
    intro v hv
    simp at hv
    rcases hv with rfl | rfl <;> omega
  · split at h
    · unfold pT at h
      obtain ⟨x1, p1, a1, h⟩ := bnd_some h
      obtain ⟨x2, p2, a2, h⟩ := bnd_some h
      obtain ⟨x3, p3, a3, h⟩ := bnd_some h
      obtain ⟨x4, p4, a4, h⟩ := bnd_some h
      obtain ⟨x5, p5, a5, h⟩ := bnd_some h
      obtain ⟨x6, p6, a6, h⟩ := bnd_some h
      obtain ⟨x7, p7, a7, h⟩ := bnd_some h
      obtain ⟨x8, p8, a8, h⟩ := bnd_some h
      obtain ⟨x9, p9, a9, h⟩ := bnd_some h
      have b1 := tk_some a1
      have b2 := tk_some a2
      have b3 := tk_some a3
      have b4 := tk_some a4
      have b5 := pNum_some a5
      have b6 := tk_some a6
      have b7 := pNum_some a7
      have b8 := tk_some a8
      have b9 := tk_some a9
      have c1 := tk_lt a1 (by decide)
      have c3 := tk_lt a3 (by decide)
      have c5 := pNum_lt a5
      have c7 := pNum_lt a7
      have c9 := tk_lt a9 (by decide)
      cases h
      refine ⟨by omega, by omega, by show 0 ≤ 3; omega, fun q => absurd rfl q, fun b hb => (by cases hb), Or.inr (Or.inl rfl), ?_⟩
      intro v hv
      simp at hv
      rcases hv with rfl | rfl | rfl | rfl | rfl <;> omega
    · split at h
      · unfold pC at h
        obtain ⟨nm, p1, a1, h⟩ := bnd_some h
        obtain ⟨x2, p2, a2, h⟩ := bnd_some h
        obtain ⟨x3, p3, a3, h⟩ := bnd_some h
        obtain ⟨x4, p4, a4, h⟩ := bnd_some h
        obtain ⟨x5, p5, a5, h⟩ := bnd_some h
        have b1 := pName_some a1
        have b2 := tk_some a2
        have b3 := tk_some a3
        have b4 := tk_some a4
        have b5 := tk_some a5
        have c1 := pName_ok a1
        have c3 := tk_lt a3 (by decide)
        have c5 := tk_lt a5 (by decide)
        cases h
        refine ⟨by omega, by omega, c1.1, fun _ => c1.2.1, c1.2.2, Or.inr (Or.inr (Or.inl rfl)), ?_⟩
        intro v hv
        simp at hv
        rcases hv with rfl | rfl <;> omega
      · split at h
        · unfold pD at h
          obtain ⟨nm, p1, a1, h⟩ := bnd_some h
          obtain ⟨x2, p2, a2, h⟩ := bnd_some h
          obtain ⟨x3, p3, a3, h⟩ := bnd_some h
          have b1 := pName_some a1
          have b2 := tk_some a2
          have b3 := pNum_some a3
          have c1 := pName_ok a1
          have c3 := pNum_lt a3
          cases h
          refine ⟨by omega, by omega, c1.1, fun _ => c1.2.1, c1.2.2, Or.inr (Or.inr (Or.inr rfl)), ?_⟩
          intro v hv
          simp at hv
          omega
        · cases h
def q_named (g : Nat → Int32) (nm : List Nat) : Option Nat := find9 (fun t => (g (7 + 6 * t) == nI nm.length) && (find9 (fun i => !(g (4 + 6 * t + i) == nI (nm.getD i 0))) 0 nm.length).isNone) 0 (nat g 3)
section Mo22
variable {G : Gl} {d m : Nat} {ma : Nat → Nat} {Qr : Option AV → AH → Prop} {Qx : String → Nat → AH → Prop} {H : AH}
theorem s_isText {B : List Nat} (hd : 4 ≤ d) (hM : MO H m ma) (hR : BufR H m ma B)
    (hQ : ∀ H', MU m ma [90, 93, 94] H H' → gI H' 90 m = nI (pText B).2 → (∀ its, (pText B).1 = some its → gI H' 94 m = nI its.length ∧ its.length ≤ 31 ∧ its ≠ [] ∧ (∀ it, it ∈ its → okI it) ∧ ∀ k, k < its.length → ToldR (gA H' 1093 (ma 93)) k (its.getD k it0)) → Qr (some (vI (bI (pText B).1.isSome))) H') : AMet G d 0 0 yX3_isText wX3_isText H [vR (some m)] Qr Qx := by
  have e0 := hM.1
  have hb2 := hR.2.1
  refine AMet.of (M := mX3_isText) (maxL := 1) rfl rfl (Nat.le_of_ble_eq_true rfl) ?_
  show AW mX3_isText _ _ _ _ _ _ _ 0 [some (vR (some m))] []
  refine r_aload_n (i := 0) dX3_isText_0 rfl rfl ?_
  refine r_iconst (v := nI 0) dX3_isText_1 (by decide) ?_
  refine r_putI dX3_isText_2 fG_X3_221 (fun _ => by first | rfl | contradiction) (by first | assumption | (simp only [kd_sI, kd_sR, kd_sA, kd_sQ, kd_sL, kd_sD, ln_sI, ln_sR, ln_sA, ln_sQ, ln_sL, ln_sD, gI_sR, gI_sA, gI_sQ, gI_sL, gI_sD, gR_sI, gR_sA, gR_sQ, gR_sL, gR_sD, gA_sI, gA_sR, gA_sQ, gA_sL, gA_sD, gQ_sI, gQ_sR, gQ_sA, gQ_sL, gQ_sD, gL_sI, gL_sR, gL_sA, gL_sQ, gL_sD]; assumption) | simp [kd_sI, kd_sR, kd_sA, kd_sQ, kd_sL, kd_sD, ln_sI, ln_sR, ln_sA, ln_sQ, ln_sL, ln_sD, gI_sR, gI_sA, gI_sQ, gI_sL, gI_sD, gR_sI, gR_sA, gR_sQ, gR_sL, gR_sD, gA_sI, gA_sR, gA_sQ, gA_sL, gA_sD, gQ_sI, gQ_sR, gQ_sA, gQ_sL, gQ_sD, gL_sI, gL_sR, gL_sA, gL_sQ, gL_sD, kd_nO, kd_nA, *]) (by first | rfl | assumption) (by first | rfl | assumption) ?_
  refine r_aload_n (i := 0) dX3_isText_5 rfl rfl ?_
  refine r_iconst (v := nI 0) dX3_isText_6 (by decide) ?_
  refine r_putI dX3_isText_7 fG_X3_230 (fun _ => by first | rfl | contradiction) (by first | assumption | (simp only [kd_sI, kd_sR, kd_sA, kd_sQ, kd_sL, kd_sD, ln_sI, ln_sR, ln_sA, ln_sQ, ln_sL, ln_sD, gI_sR, gI_sA, gI_sQ, gI_sL, gI_sD, gR_sI, gR_sA, gR_sQ, gR_sL, gR_sD, gA_sI, gA_sR, gA_sQ, gA_sL, gA_sD, gQ_sI, gQ_sR, gQ_sA, gQ_sL, gQ_sD, gL_sI, gL_sR, gL_sA, gL_sQ, gL_sD]; assumption) | simp [kd_sI, kd_sR, kd_sA, kd_sQ, kd_sL, kd_sD, ln_sI, ln_sR, ln_sA, ln_sQ, ln_sL, ln_sD, gI_sR, gI_sA, gI_sQ, gI_sL, gI_sD, gR_sI, gR_sA, gR_sQ, gR_sL, gR_sD, gA_sI, gA_sR, gA_sQ, gA_sL, gA_sD, gQ_sI, gQ_sR, gQ_sA, gQ_sL, gQ_sD, gL_sI, gL_sR, gL_sA, gL_sQ, gL_sD, kd_nO, kd_nA, *]) (by first | rfl | assumption) (by first | rfl | assumption) ?_
  have loop : ∀ (k p : Nat) (acc : List Itm) (H1 : AH), acc.length + k = 31 → 2 * acc.length ≤ p → p ≤ B.length → MU m ma [90, 93, 94] H H1 → gI H1 90 m = nI p → gI H1 94 m = nI acc.length → (∀ it, it ∈ acc → okI it) → (∀ j, j < acc.length → ToldR (gA H1 1093 (ma 93)) j (acc.getD j it0)) → pText B = pItems B k p acc → AW mX3_isText G d Qr Qx 0 0 H1 10 [some (vR (some m))] [] := by
    intro k
    induction k with
    | zero => intro p acc H1 h1 h2 h3; omega
    | succ k ih =>
      intro p acc H1 h1 h2 h3 hU hS h94 hok hT hE
      have hM1 := hM.mf hU.1
      have e01 := hM1.1
      have hR1 := hR.mu hU (by decide) (by decide)
      unfold pItems at hE
      refine r_aload_n (i := 0) dX3_isText_10 rfl rfl ?_
      refine r_callV (As := []) (mc' := 0) (ms' := 0) dX3_isText_11 k_X3_242 rfl (by first | assumption | (simp only [kd_sI, kd_sR, kd_sA, kd_sQ, kd_sL, kd_sD, ln_sI, ln_sR, ln_sA, ln_sQ, ln_sL, ln_sD, gI_sR, gI_sA, gI_sQ, gI_sL, gI_sD, gR_sI, gR_sA, gR_sQ, gR_sL, gR_sD, gA_sI, gA_sR, gA_sQ, gA_sL, gA_sD, gQ_sI, gQ_sR, gQ_sA, gQ_sL, gQ_sD, gL_sI, gL_sR, gL_sA, gL_sQ, gL_sD]; assumption) | simp [kd_sI, kd_sR, kd_sA, kd_sQ, kd_sL, kd_sD, ln_sI, ln_sR, ln_sA, ln_sQ, ln_sL, ln_sD, gI_sR, gI_sA, gI_sQ, gI_sL, gI_sD, gR_sI, gR_sA, gR_sQ, gR_sL, gR_sD, gA_sI, gA_sR, gA_sQ, gA_sL, gA_sD, gQ_sI, gQ_sR, gQ_sA, gQ_sL, gQ_sD, gL_sI, gL_sR, gL_sA, gL_sQ, gL_sD, kd_nO, kd_nA, *]) (T := TX3) (N := 27) rfl (by first | assumption | omega) (by first | assumption | omega) (by first | assumption | omega) (Nat.le_of_ble_eq_true rfl) ?_
      refine s_item (B := B) (p := p) (i := acc.length) (by omega) hM1 hR1 hS (by omega) (by omega) h94 ?_
      intro H2 hU2 hS2 hT2
      have hU12 : MU m ma [90, 93, 94] H H2 := (hU.tr hU2).sub (by decide)
      have hM2 := hM.mf hU12.1
      have e02 := hM2.1
      have hR2 := hR.mu hU12 (by decide) (by decide)
      show AW mX3_isText G d Qr Qx _ _ H2 14 _ _
      rcases hp : pItem B p with ⟨o, q⟩
      rw [hp] at hE hS2 hT2
      cases o with
      | none =>
        dsimp only at hE
        rw [hE] at hQ
        refine r_if_ne (tgt := 19) dX3_isText_14 (by decide) (fun h14 => ?_) (fun h14 => ?_)
        · exact absurd rfl h14
        · refine r_iconst (v := nI 0) dX3_isText_17 (by decide) ?_
          refine r_ireturn dX3_isText_18 rfl (by first | rfl | assumption | exact vp_nar_int _ | exact pk_nc _) ?_
          exact hQ H2 hU12 hS2 (fun its h => by cases h)
      | some it =>
        dsimp only at hE
        obtain ⟨s1, s2, s3⟩ := pItem_some hp
        obtain ⟨t1, t2, t3⟩ := hT2 it rfl
        have hT3 : ∀ j, j < (acc ++ [it]).length → ToldR (gA H2 1093 (ma 93)) j ((acc ++ [it]).getD j it0) := by
          intro j hj
          rw [List.length_append] at hj
          have hj' : j < acc.length + 1 := hj
          by_cases hja : j = acc.length
          · rw [hja]
            simpa using t2
          · have h9 := hT j (by omega)
            have h8 : (acc ++ [it]).getD j it0 = acc.getD j it0 := by
              simp only [List.getD_eq_getElem?_getD]
              rw [List.getElem?_append_left (by omega)]
            rw [h8]
            unfold ToldR at h9 ⊢
            rw [t3 _ (by omega), t3 _ (by omega), t3 _ (by omega), t3 _ (by omega), t3 _ (by omega), t3 _ (by omega), t3 _ (by omega), t3 _ (by omega), t3 _ (by omega), t3 _ (by omega)]
            exact h9
        have hok2 : ∀ it', it' ∈ acc ++ [it] → okI it' := by
          intro it' h
          rw [List.mem_append, List.mem_singleton] at h
          rcases h with h | h
          · exact hok it' h
          · rw [h]; exact s3
        refine r_if_ne (tgt := 19) dX3_isText_14 (by decide) (fun h14 => ?_) (fun h14 => ?_)
        · refine r_aload_n (i := 0) dX3_isText_19 rfl rfl ?_
          refine r_bipush (v := nI 59) dX3_isText_20 (by decide) ?_
          refine r_callV (As := [_]) (mc' := 0) (ms' := 0) dX3_isText_22 k_X3_233 rfl (by first | assumption | (simp only [kd_sI, kd_sR, kd_sA, kd_sQ, kd_sL, kd_sD, ln_sI, ln_sR, ln_sA, ln_sQ, ln_sL, ln_sD, gI_sR, gI_sA, gI_sQ, gI_sL, gI_sD, gR_sI, gR_sA, gR_sQ, gR_sL, gR_sD, gA_sI, gA_sR, gA_sQ, gA_sL, gA_sD, gQ_sI, gQ_sR, gQ_sA, gQ_sL, gQ_sD, gL_sI, gL_sR, gL_sA, gL_sQ, gL_sD]; assumption) | simp [kd_sI, kd_sR, kd_sA, kd_sQ, kd_sL, kd_sD, ln_sI, ln_sR, ln_sA, ln_sQ, ln_sL, ln_sD, gI_sR, gI_sA, gI_sQ, gI_sL, gI_sD, gR_sI, gR_sA, gR_sQ, gR_sL, gR_sD, gA_sI, gA_sR, gA_sQ, gA_sL, gA_sD, gQ_sI, gQ_sR, gQ_sA, gQ_sL, gQ_sD, gL_sI, gL_sR, gL_sA, gL_sQ, gL_sD, kd_nO, kd_nA, *]) (T := TX3) (N := 27) rfl (by first | assumption | omega) (by first | assumption | omega) (by first | assumption | omega) (Nat.le_of_ble_eq_true rfl) ?_
          refine s_skips (B := B) (p := q) (c := 59) (by omega) hM2 hR2 hS2 (by omega) (by decide) ?_
          intro H3 hU3 hS3
          have hU13 : MU m ma [90, 93, 94] H H3 := (hU12.tr hU3).sub (by decide)
          have hM3 := hM.mf hU13.1
          have e03 := hM3.1
          have h943 : gI H3 94 m = nI (acc.length + 1) := by rw [(hU3.2 94 (by decide)).1]; exact t1
          have hT4 : ∀ j, j < (acc ++ [it]).length → ToldR (gA H3 1093 (ma 93)) j ((acc ++ [it]).getD j it0) := by
            rw [show gA H3 1093 = gA H2 1093 from (hU3.2 93 (by decide)).2]
            exact hT3
          have hb1 := (hR.mu hU13 (by decide) (by decide)).1
          show AW mX3_isText G d Qr Qx _ _ H3 25 _ _
          unfold tk at hS3 ⊢
          cases hc : inR B q 59 59 with
          | true =>
            rw [hc] at hE hS3
            simp only [if_true] at hE hS3 ⊢
            have := here_c hc
            refine r_if_ne (tgt := 10) dX3_isText_25 (by decide) (fun h25 => ?_) (fun h25 => ?_)
            · exact ih (q + 1) (acc ++ [it]) H3 (by simp; omega) (by simp; omega) (by omega) hU13 hS3 (by simp; exact h943) hok2 hT4 hE
            · exact absurd h25 (by show ¬ nI 1 = 0; decide)
          | false =>
            rw [hc] at hE hS3
            simp only [Bool.false_eq_true, if_false] at hE hS3 ⊢
            refine r_if_ne (tgt := 10) dX3_isText_25 (by decide) (fun h25 => ?_) (fun h25 => ?_)
            · exact absurd rfl h25
            · by_cases hq : q = B.length
              · rw [if_pos hq] at hE
                rw [hE] at hQ
                refine r_aload_n (i := 0) dX3_isText_28 rfl rfl ?_
                refine r_getI dX3_isText_29 fR_X3_221 (by first | assumption | (simp only [kd_sI, kd_sR, kd_sA, kd_sQ, kd_sL, kd_sD, ln_sI, ln_sR, ln_sA, ln_sQ, ln_sL, ln_sD, gI_sR, gI_sA, gI_sQ, gI_sL, gI_sD, gR_sI, gR_sA, gR_sQ, gR_sL, gR_sD, gA_sI, gA_sR, gA_sQ, gA_sL, gA_sD, gQ_sI, gQ_sR, gQ_sA, gQ_sL, gQ_sD, gL_sI, gL_sR, gL_sA, gL_sQ, gL_sD]; assumption) | simp [kd_sI, kd_sR, kd_sA, kd_sQ, kd_sL, kd_sD, ln_sI, ln_sR, ln_sA, ln_sQ, ln_sL, ln_sD, gI_sR, gI_sA, gI_sQ, gI_sL, gI_sD, gR_sI, gR_sA, gR_sQ, gR_sL, gR_sD, gA_sI, gA_sR, gA_sQ, gA_sL, gA_sD, gQ_sI, gQ_sR, gQ_sA, gQ_sL, gQ_sD, gL_sI, gL_sR, gL_sA, gL_sQ, gL_sD, kd_nO, kd_nA, *]) (by first | assumption | exact gI_sIs | exact gR_sRs | with_reducible rfl | (simp only [kd_sI, kd_sR, kd_sA, kd_sQ, kd_sL, kd_sD, ln_sI, ln_sR, ln_sA, ln_sQ, ln_sL, ln_sD, gI_sR, gI_sA, gI_sQ, gI_sL, gI_sD, gR_sI, gR_sA, gR_sQ, gR_sL, gR_sD, gA_sI, gA_sR, gA_sQ, gA_sL, gA_sD, gQ_sI, gQ_sR, gQ_sA, gQ_sL, gQ_sD, gL_sI, gL_sR, gL_sA, gL_sQ, gL_sD]; first | done | assumption | with_reducible rfl) | rfl) ?_
                refine r_aload_n (i := 0) dX3_isText_32 rfl rfl ?_
                refine r_getI dX3_isText_33 fR_X3_209 (by first | assumption | (simp only [kd_sI, kd_sR, kd_sA, kd_sQ, kd_sL, kd_sD, ln_sI, ln_sR, ln_sA, ln_sQ, ln_sL, ln_sD, gI_sR, gI_sA, gI_sQ, gI_sL, gI_sD, gR_sI, gR_sA, gR_sQ, gR_sL, gR_sD, gA_sI, gA_sR, gA_sQ, gA_sL, gA_sD, gQ_sI, gQ_sR, gQ_sA, gQ_sL, gQ_sD, gL_sI, gL_sR, gL_sA, gL_sQ, gL_sD]; assumption) | simp [kd_sI, kd_sR, kd_sA, kd_sQ, kd_sL, kd_sD, ln_sI, ln_sR, ln_sA, ln_sQ, ln_sL, ln_sD, gI_sR, gI_sA, gI_sQ, gI_sL, gI_sD, gR_sI, gR_sA, gR_sQ, gR_sL, gR_sD, gA_sI, gA_sR, gA_sQ, gA_sL, gA_sD, gQ_sI, gQ_sR, gQ_sA, gQ_sL, gQ_sD, gL_sI, gL_sR, gL_sA, gL_sQ, gL_sD, kd_nO, kd_nA, *]) (by first | assumption | exact gI_sIs | exact gR_sRs | with_reducible rfl | (simp only [kd_sI, kd_sR, kd_sA, kd_sQ, kd_sL, kd_sD, ln_sI, ln_sR, ln_sA, ln_sQ, ln_sL, ln_sD, gI_sR, gI_sA, gI_sQ, gI_sL, gI_sD, gR_sI, gR_sA, gR_sQ, gR_sL, gR_sD, gA_sI, gA_sR, gA_sQ, gA_sL, gA_sD, gQ_sI, gQ_sR, gQ_sA, gQ_sL, gQ_sD, gL_sI, gL_sR, gL_sA, gL_sQ, gL_sD]; first | done | assumption | with_reducible rfl) | rfl) ?_
                refine r_icmp_ne (tgt := 43) dX3_isText_36 (by decide) (fun h36 => ?_) (fun h36 => ?_)
                · exact absurd (by rw [hq]) h36
                · refine r_iconst (v := nI 1) dX3_isText_39 (by decide) ?_
                  refine r_goto (tgt := 44) dX3_isText_40 (by decide) ?_
                  refine r_ireturn dX3_isText_44 rfl (by first | rfl | assumption | exact vp_nar_int _ | exact pk_nc _) ?_
                  exact hQ H3 hU13 hS3 (fun its h => by
                    cases h
                    refine ⟨by rw [List.length_append]; exact h943, by rw [List.length_append]; simp; omega, by simp, hok2, hT4⟩)
              · rw [if_neg hq] at hE
                rw [hE] at hQ
                refine r_aload_n (i := 0) dX3_isText_28 rfl rfl ?_
                refine r_getI dX3_isText_29 fR_X3_221 (by first | assumption | (simp only [kd_sI, kd_sR, kd_sA, kd_sQ, kd_sL, kd_sD, ln_sI, ln_sR, ln_sA, ln_sQ, ln_sL, ln_sD, gI_sR, gI_sA, gI_sQ, gI_sL, gI_sD, gR_sI, gR_sA, gR_sQ, gR_sL, gR_sD, gA_sI, gA_sR, gA_sQ, gA_sL, gA_sD, gQ_sI, gQ_sR, gQ_sA, gQ_sL, gQ_sD, gL_sI, gL_sR, gL_sA, gL_sQ, gL_sD]; assumption) | simp [kd_sI, kd_sR, kd_sA, kd_sQ, kd_sL, kd_sD, ln_sI, ln_sR, ln_sA, ln_sQ, ln_sL, ln_sD, gI_sR, gI_sA, gI_sQ, gI_sL, gI_sD, gR_sI, gR_sA, gR_sQ, gR_sL, gR_sD, gA_sI, gA_sR, gA_sQ, gA_sL, gA_sD, gQ_sI, gQ_sR, gQ_sA, gQ_sL, gQ_sD, gL_sI, gL_sR, gL_sA, gL_sQ, gL_sD, kd_nO, kd_nA, *]) (by first | assumption | exact gI_sIs | exact gR_sRs | with_reducible rfl | (simp only [kd_sI, kd_sR, kd_sA, kd_sQ, kd_sL, kd_sD, ln_sI, ln_sR, ln_sA, ln_sQ, ln_sL, ln_sD, gI_sR, gI_sA, gI_sQ, gI_sL, gI_sD, gR_sI, gR_sA, gR_sQ, gR_sL, gR_sD, gA_sI, gA_sR, gA_sQ, gA_sL, gA_sD, gQ_sI, gQ_sR, gQ_sA, gQ_sL, gQ_sD, gL_sI, gL_sR, gL_sA, gL_sQ, gL_sD]; first | done | assumption | with_reducible rfl) | rfl) ?_
                refine r_aload_n (i := 0) dX3_isText_32 rfl rfl ?_
                refine r_getI dX3_isText_33 fR_X3_209 (by first | assumption | (simp only [kd_sI, kd_sR, kd_sA, kd_sQ, kd_sL, kd_sD, ln_sI, ln_sR, ln_sA, ln_sQ, ln_sL, ln_sD, gI_sR, gI_sA, gI_sQ, gI_sL, gI_sD, gR_sI, gR_sA, gR_sQ, gR_sL, gR_sD, gA_sI, gA_sR, gA_sQ, gA_sL, gA_sD, gQ_sI, gQ_sR, gQ_sA, gQ_sL, gQ_sD, gL_sI, gL_sR, gL_sA, gL_sQ, gL_sD]; assumption) | simp [kd_sI, kd_sR, kd_sA, kd_sQ, kd_sL, kd_sD, ln_sI, ln_sR, ln_sA, ln_sQ, ln_sL, ln_sD, gI_sR, gI_sA, gI_sQ, gI_sL, gI_sD, gR_sI, gR_sA, gR_sQ, gR_sL, gR_sD, gA_sI, gA_sR, gA_sQ, gA_sL, gA_sD, gQ_sI, gQ_sR, gQ_sA, gQ_sL, gQ_sD, gL_sI, gL_sR, gL_sA, gL_sQ, gL_sD, kd_nO, kd_nA, *]) (by first | assumption | exact gI_sIs | exact gR_sRs | with_reducible rfl | (simp only [kd_sI, kd_sR, kd_sA, kd_sQ, kd_sL, kd_sD, ln_sI, ln_sR, ln_sA, ln_sQ, ln_sL, ln_sD, gI_sR, gI_sA, gI_sQ, gI_sL, gI_sD, gR_sI, gR_sA, gR_sQ, gR_sL, gR_sD, gA_sI, gA_sR, gA_sQ, gA_sL, gA_sD, gQ_sI, gQ_sR, gQ_sA, gQ_sL, gQ_sD, gL_sI, gL_sR, gL_sA, gL_sQ, gL_sD]; first | done | assumption | with_reducible rfl) | rfl) ?_
                refine r_icmp_ne (tgt := 43) dX3_isText_36 (by decide) (fun h36 => ?_) (fun h36 => ?_)
                · refine r_iconst (v := nI 0) dX3_isText_43 (by decide) ?_
                  refine r_ireturn dX3_isText_44 rfl (by first | rfl | assumption | exact vp_nar_int _ | exact pk_nc _) ?_
                  exact hQ H3 hU13 hS3 (fun its h => by cases h)
                · exact absurd ((nI_eq (by omega) (by omega)).mp h36) hq
        · exact absurd h14 (by show ¬ nI 1 = 0; decide)
  refine loop 31 0 [] _ rfl (Nat.le_refl _) (Nat.zero_le _) ((MU.rf.sI (by decide) (by decide) (by decide)).sI (by decide) (by decide) (by decide)) (by rw [gI_sI, if_neg (by omega)]; exact gI_sIs) gI_sIs (fun it h => by cases h) (fun j h => by cases h) rfl
theorem s_named {a k9 n9 fr : Nat} {nm : List Nat} (hM : MO H m ma) (hB : GB (gA H 1068 (ma 68))) (ha : kd H a = k9) (hk9 : k9 / 1000 = 1) (hn9 : ln H a = n9) (h65 : n9 < 65536) (hfr : fr + nm.length ≤ n9) (h3 : nm.length ≤ 3) (hT : ∀ i, i < nm.length → gA H k9 a (fr + i) = nI (nm.getD i 0))
    (hQ : Qr (some (vI (oI (q_named (gA H 1068 (ma 68)) nm)))) H) : AMet G d 0 0 yX3_named wX3_named H [vR (some m), vR (some a), vI (nI fr), vI (nI nm.length)] Qr Qx := by
  have e0 := hM.1
  obtain ⟨e68a, e68b, e68c⟩ : gR H 68 m = some (ma 68) ∧ kd H (ma 68) = 1068 ∧ ln H (ma 68) = 385 := hM.2 68 (by decide)
  obtain ⟨hY1, hY2⟩ := hB.1
  obtain ⟨Y, hY⟩ := ex_val (nat (gA H 1068 (ma 68)) 3)
  unfold q_named at hQ
  rw [← hY] at hY1 hY2 hQ
  obtain ⟨g, hg⟩ := ex_val (gA H 1068 (ma 68))
  rw [← hg] at hQ hY1
  obtain ⟨L, hL⟩ := ex_val nm.length
  rw [← hL] at hfr h3 hT hQ
  rw [← hL]
  refine AMet.of (M := mX3_named) (maxL := 7) rfl rfl (Nat.le_of_ble_eq_true rfl) ?_
  show AW mX3_named _ _ _ _ _ _ _ 0 [some (vR (some m)), some (vR (some a)), some (vI (nI fr)), some (vI (nI L)), none, none, none] []
  refine r_iconst (v := nI 0) dX3_named_0 (by decide) ?_
  refine r_istore dX3_named_1 (Nat.le_of_ble_eq_true rfl) (by simp only [lset]; rfl) ?_
  have loop : ∀ (k t : Nat) (o5 o6 : Option AV), t + k = Y → find9 (fun t => (g (7 + 6 * t) == nI L) && (find9 (fun i => !(g (4 + 6 * t + i) == nI (nm.getD i 0))) 0 L).isNone) 0 Y = find9 (fun t => (g (7 + 6 * t) == nI L) && (find9 (fun i => !(g (4 + 6 * t + i) == nI (nm.getD i 0))) 0 L).isNone) t k → AW mX3_named G d Qr Qx 0 0 H 3 [some (vR (some m)), some (vR (some a)), some (vI (nI fr)), some (vI (nI L)), some (vI (nI t)), o5, o6] [] := by
    intro k
    induction k with
    | zero =>
      intro t o5 o6 ht hf
      rw [hf] at hQ
      unfold find9 at hQ
      have g3 : gA H 1068 (ma 68) 3 = nI Y := by rw [← hg]; exact hY1
      refine r_iload dX3_named_3 rfl ?_
      refine r_aload_n (i := 0) dX3_named_5 rfl rfl ?_
      refine r_getR dX3_named_6 fR_X3_7 (by first | assumption | (simp only [kd_sI, kd_sR, kd_sA, kd_sQ, kd_sL, kd_sD, ln_sI, ln_sR, ln_sA, ln_sQ, ln_sL, ln_sD, gI_sR, gI_sA, gI_sQ, gI_sL, gI_sD, gR_sI, gR_sA, gR_sQ, gR_sL, gR_sD, gA_sI, gA_sR, gA_sQ, gA_sL, gA_sD, gQ_sI, gQ_sR, gQ_sA, gQ_sL, gQ_sD, gL_sI, gL_sR, gL_sA, gL_sQ, gL_sD]; assumption) | simp [kd_sI, kd_sR, kd_sA, kd_sQ, kd_sL, kd_sD, ln_sI, ln_sR, ln_sA, ln_sQ, ln_sL, ln_sD, gI_sR, gI_sA, gI_sQ, gI_sL, gI_sD, gR_sI, gR_sA, gR_sQ, gR_sL, gR_sD, gA_sI, gA_sR, gA_sQ, gA_sL, gA_sD, gQ_sI, gQ_sR, gQ_sA, gQ_sL, gQ_sD, gL_sI, gL_sR, gL_sA, gL_sQ, gL_sD, kd_nO, kd_nA, *]) (by first | assumption | exact gI_sIs | exact gR_sRs | with_reducible rfl | (simp only [kd_sI, kd_sR, kd_sA, kd_sQ, kd_sL, kd_sD, ln_sI, ln_sR, ln_sA, ln_sQ, ln_sL, ln_sD, gI_sR, gI_sA, gI_sQ, gI_sL, gI_sD, gR_sI, gR_sA, gR_sQ, gR_sL, gR_sD, gA_sI, gA_sR, gA_sQ, gA_sL, gA_sD, gQ_sI, gQ_sR, gQ_sA, gQ_sL, gQ_sD, gL_sI, gL_sR, gL_sA, gL_sQ, gL_sD]; first | done | assumption | with_reducible rfl) | rfl) ?_
      refine r_iconst (v := nI 3) dX3_named_9 (by decide) ?_
      refine r_iald dX3_named_10 (by first | assumption | (simp only [kd_sI, kd_sR, kd_sA, kd_sQ, kd_sL, kd_sD, ln_sI, ln_sR, ln_sA, ln_sQ, ln_sL, ln_sD, gI_sR, gI_sA, gI_sQ, gI_sL, gI_sD, gR_sI, gR_sA, gR_sQ, gR_sL, gR_sD, gA_sI, gA_sR, gA_sQ, gA_sL, gA_sD, gQ_sI, gQ_sR, gQ_sA, gQ_sL, gQ_sD, gL_sI, gL_sR, gL_sA, gL_sQ, gL_sD]; assumption) | simp [kd_sI, kd_sR, kd_sA, kd_sQ, kd_sL, kd_sD, ln_sI, ln_sR, ln_sA, ln_sQ, ln_sL, ln_sD, gI_sR, gI_sA, gI_sQ, gI_sL, gI_sD, gR_sI, gR_sA, gR_sQ, gR_sL, gR_sD, gA_sI, gA_sR, gA_sQ, gA_sL, gA_sD, gQ_sI, gQ_sR, gQ_sA, gQ_sL, gQ_sD, gL_sI, gL_sR, gL_sA, gL_sQ, gL_sD, kd_nO, kd_nA, *]) (by first | decide | assumption) (by first | assumption | exact gI_sIs | exact gR_sRs | with_reducible rfl | (simp only [kd_sI, kd_sR, kd_sA, kd_sQ, kd_sL, kd_sD, ln_sI, ln_sR, ln_sA, ln_sQ, ln_sL, ln_sD, gI_sR, gI_sA, gI_sQ, gI_sL, gI_sD, gR_sI, gR_sA, gR_sQ, gR_sL, gR_sD, gA_sI, gA_sR, gA_sQ, gA_sL, gA_sD, gQ_sI, gQ_sR, gQ_sA, gQ_sL, gQ_sD, gL_sI, gL_sR, gL_sA, gL_sQ, gL_sD]; first | done | assumption | with_reducible rfl) | rfl) (by first | with_reducible rfl | assumption | (simp only [nI_add, pk_mul, nI_1]; with_reducible rfl)) (by first | assumption | omega) (by first | assumption | omega) (by first | assumption | exact gI_sIs | exact gR_sRs | with_reducible rfl | (simp only [kd_sI, kd_sR, kd_sA, kd_sQ, kd_sL, kd_sD, ln_sI, ln_sR, ln_sA, ln_sQ, ln_sL, ln_sD, gI_sR, gI_sA, gI_sQ, gI_sL, gI_sD, gR_sI, gR_sA, gR_sQ, gR_sL, gR_sD, gA_sI, gA_sR, gA_sQ, gA_sL, gA_sD, gQ_sI, gQ_sR, gQ_sA, gQ_sL, gQ_sD, gL_sI, gL_sR, gL_sA, gL_sQ, gL_sD]; first | done | assumption | with_reducible rfl) | rfl) ?_
      refine r_icmp_ge (tgt := 104) dX3_named_11 (by decide) (fun h11 => ?_) (fun h11 => ?_)
      · refine r_iconst (v := -1) dX3_named_104 (by decide) ?_
        refine r_ireturn dX3_named_105 rfl (by first | rfl | assumption | exact vp_nar_int _ | exact pk_nc _) ?_
        exact hQ
      · exact absurd (nI_le (by omega) (by omega)) h11
    | succ k ih =>
      intro t o5 o6 ht hf
      have g3 : gA H 1068 (ma 68) 3 = nI Y := by rw [← hg]; exact hY1
      rw [find9] at hf
      have yes : ((g (7 + 6 * t) == nI L) && (find9 (fun i => !(g (4 + 6 * t + i) == nI (nm.getD i 0))) 0 L).isNone) = true → ∀ o6, AW mX3_named G d Qr Qx 0 0 H 90 [some (vR (some m)), some (vR (some a)), some (vI (nI fr)), some (vI (nI L)), some (vI (nI t)), some (vI (nI 1)), o6] [] := by
        intro h o6
        rw [if_pos h] at hf
        rw [hf] at hQ
        refine r_iload dX3_named_90 rfl ?_
        refine r_if_eq (tgt := 98) dX3_named_92 (by decide) (fun h92 => ?_) (fun h92 => ?_)
        · exact absurd h92 (by decide)
        · refine r_iload dX3_named_95 rfl ?_
          refine r_ireturn dX3_named_97 rfl (by first | rfl | assumption | exact vp_nar_int _ | exact pk_nc _) ?_
          exact hQ
      have no : ((g (7 + 6 * t) == nI L) && (find9 (fun i => !(g (4 + 6 * t + i) == nI (nm.getD i 0))) 0 L).isNone) = false → ∀ o6, AW mX3_named G d Qr Qx 0 0 H 90 [some (vR (some m)), some (vR (some a)), some (vI (nI fr)), some (vI (nI L)), some (vI (nI t)), some (vI (nI 0)), o6] [] := by
        intro h o6
        rw [if_neg (by rw [h]; decide)] at hf
        refine r_iload dX3_named_90 rfl ?_
        refine r_if_eq (tgt := 98) dX3_named_92 (by decide) (fun h92 => ?_) (fun h92 => ?_)
        · refine r_iinc dX3_named_98 rfl (by first | exact nI_1 _ | rfl) (by simp only [lset]; rfl) ?_
          refine r_goto (tgt := 3) dX3_named_101 (by decide) ?_
          exact ih (t + 1) _ _ (by omega) hf
        · exact absurd rfl h92
      have nos : ((g (7 + 6 * t) == nI L) && (find9 (fun i => !(g (4 + 6 * t + i) == nI (nm.getD i 0))) 0 L).isNone) = false → ∀ i, i ≤ L → AW mX3_named G d Qr Qx 0 0 H 42 [some (vR (some m)), some (vR (some a)), some (vI (nI fr)), some (vI (nI L)), some (vI (nI t)), some (vI (nI 0)), some (vI (nI i))] [] := by
        intro h i hi
        refine r_iload dX3_named_42 rfl ?_
        refine r_iload_n (i := 3) dX3_named_44 rfl rfl ?_
        refine r_icmp_ge (tgt := 90) dX3_named_45 (by decide) (fun h45 => ?_) (fun h45 => ?_)
        · exact no h _
        · refine r_iload dX3_named_48 rfl ?_
          refine r_if_eq (tgt := 90) dX3_named_50 (by decide) (fun h50 => ?_) (fun h50 => ?_)
          · exact no h _
          · exact absurd rfl h50
      have g7 : gA H 1068 (ma 68) (4 + 6 * t + 3) = g (7 + 6 * t) := by rw [← hg, show 4 + 6 * t + 3 = 7 + 6 * t by omega]
      refine r_iload dX3_named_3 rfl ?_
      refine r_aload_n (i := 0) dX3_named_5 rfl rfl ?_
      refine r_getR dX3_named_6 fR_X3_7 (by first | assumption | (simp only [kd_sI, kd_sR, kd_sA, kd_sQ, kd_sL, kd_sD, ln_sI, ln_sR, ln_sA, ln_sQ, ln_sL, ln_sD, gI_sR, gI_sA, gI_sQ, gI_sL, gI_sD, gR_sI, gR_sA, gR_sQ, gR_sL, gR_sD, gA_sI, gA_sR, gA_sQ, gA_sL, gA_sD, gQ_sI, gQ_sR, gQ_sA, gQ_sL, gQ_sD, gL_sI, gL_sR, gL_sA, gL_sQ, gL_sD]; assumption) | simp [kd_sI, kd_sR, kd_sA, kd_sQ, kd_sL, kd_sD, ln_sI, ln_sR, ln_sA, ln_sQ, ln_sL, ln_sD, gI_sR, gI_sA, gI_sQ, gI_sL, gI_sD, gR_sI, gR_sA, gR_sQ, gR_sL, gR_sD, gA_sI, gA_sR, gA_sQ, gA_sL, gA_sD, gQ_sI, gQ_sR, gQ_sA, gQ_sL, gQ_sD, gL_sI, gL_sR, gL_sA, gL_sQ, gL_sD, kd_nO, kd_nA, *]) (by first | assumption | exact gI_sIs | exact gR_sRs | with_reducible rfl | (simp only [kd_sI, kd_sR, kd_sA, kd_sQ, kd_sL, kd_sD, ln_sI, ln_sR, ln_sA, ln_sQ, ln_sL, ln_sD, gI_sR, gI_sA, gI_sQ, gI_sL, gI_sD, gR_sI, gR_sA, gR_sQ, gR_sL, gR_sD, gA_sI, gA_sR, gA_sQ, gA_sL, gA_sD, gQ_sI, gQ_sR, gQ_sA, gQ_sL, gQ_sD, gL_sI, gL_sR, gL_sA, gL_sQ, gL_sD]; first | done | assumption | with_reducible rfl) | rfl) ?_
      refine r_iconst (v := nI 3) dX3_named_9 (by decide) ?_
      refine r_iald dX3_named_10 (by first | assumption | (simp only [kd_sI, kd_sR, kd_sA, kd_sQ, kd_sL, kd_sD, ln_sI, ln_sR, ln_sA, ln_sQ, ln_sL, ln_sD, gI_sR, gI_sA, gI_sQ, gI_sL, gI_sD, gR_sI, gR_sA, gR_sQ, gR_sL, gR_sD, gA_sI, gA_sR, gA_sQ, gA_sL, gA_sD, gQ_sI, gQ_sR, gQ_sA, gQ_sL, gQ_sD, gL_sI, gL_sR, gL_sA, gL_sQ, gL_sD]; assumption) | simp [kd_sI, kd_sR, kd_sA, kd_sQ, kd_sL, kd_sD, ln_sI, ln_sR, ln_sA, ln_sQ, ln_sL, ln_sD, gI_sR, gI_sA, gI_sQ, gI_sL, gI_sD, gR_sI, gR_sA, gR_sQ, gR_sL, gR_sD, gA_sI, gA_sR, gA_sQ, gA_sL, gA_sD, gQ_sI, gQ_sR, gQ_sA, gQ_sL, gQ_sD, gL_sI, gL_sR, gL_sA, gL_sQ, gL_sD, kd_nO, kd_nA, *]) (by first | decide | assumption) (by first | assumption | exact gI_sIs | exact gR_sRs | with_reducible rfl | (simp only [kd_sI, kd_sR, kd_sA, kd_sQ, kd_sL, kd_sD, ln_sI, ln_sR, ln_sA, ln_sQ, ln_sL, ln_sD, gI_sR, gI_sA, gI_sQ, gI_sL, gI_sD, gR_sI, gR_sA, gR_sQ, gR_sL, gR_sD, gA_sI, gA_sR, gA_sQ, gA_sL, gA_sD, gQ_sI, gQ_sR, gQ_sA, gQ_sL, gQ_sD, gL_sI, gL_sR, gL_sA, gL_sQ, gL_sD]; first | done | assumption | with_reducible rfl) | rfl) (by first | with_reducible rfl | assumption | (simp only [nI_add, pk_mul, nI_1]; with_reducible rfl)) (by first | assumption | omega) (by first | assumption | omega) (by first | assumption | exact gI_sIs | exact gR_sRs | with_reducible rfl | (simp only [kd_sI, kd_sR, kd_sA, kd_sQ, kd_sL, kd_sD, ln_sI, ln_sR, ln_sA, ln_sQ, ln_sL, ln_sD, gI_sR, gI_sA, gI_sQ, gI_sL, gI_sD, gR_sI, gR_sA, gR_sQ, gR_sL, gR_sD, gA_sI, gA_sR, gA_sQ, gA_sL, gA_sD, gQ_sI, gQ_sR, gQ_sA, gQ_sL, gQ_sD, gL_sI, gL_sR, gL_sA, gL_sQ, gL_sD]; first | done | assumption | with_reducible rfl) | rfl) ?_
      refine r_icmp_ge (tgt := 104) dX3_named_11 (by decide) (fun h11 => ?_) (fun h11 => ?_)
      · exact absurd h11 (nI_ge (by omega) (by omega))
      · refine r_aload_n (i := 0) dX3_named_14 rfl rfl ?_
        refine r_getR dX3_named_15 fR_X3_7 (by first | assumption | (simp only [kd_sI, kd_sR, kd_sA, kd_sQ, kd_sL, kd_sD, ln_sI, ln_sR, ln_sA, ln_sQ, ln_sL, ln_sD, gI_sR, gI_sA, gI_sQ, gI_sL, gI_sD, gR_sI, gR_sA, gR_sQ, gR_sL, gR_sD, gA_sI, gA_sR, gA_sQ, gA_sL, gA_sD, gQ_sI, gQ_sR, gQ_sA, gQ_sL, gQ_sD, gL_sI, gL_sR, gL_sA, gL_sQ, gL_sD]; assumption) | simp [kd_sI, kd_sR, kd_sA, kd_sQ, kd_sL, kd_sD, ln_sI, ln_sR, ln_sA, ln_sQ, ln_sL, ln_sD, gI_sR, gI_sA, gI_sQ, gI_sL, gI_sD, gR_sI, gR_sA, gR_sQ, gR_sL, gR_sD, gA_sI, gA_sR, gA_sQ, gA_sL, gA_sD, gQ_sI, gQ_sR, gQ_sA, gQ_sL, gQ_sD, gL_sI, gL_sR, gL_sA, gL_sQ, gL_sD, kd_nO, kd_nA, *]) (by first | assumption | exact gI_sIs | exact gR_sRs | with_reducible rfl | (simp only [kd_sI, kd_sR, kd_sA, kd_sQ, kd_sL, kd_sD, ln_sI, ln_sR, ln_sA, ln_sQ, ln_sL, ln_sD, gI_sR, gI_sA, gI_sQ, gI_sL, gI_sD, gR_sI, gR_sA, gR_sQ, gR_sL, gR_sD, gA_sI, gA_sR, gA_sQ, gA_sL, gA_sD, gQ_sI, gQ_sR, gQ_sA, gQ_sL, gQ_sD, gL_sI, gL_sR, gL_sA, gL_sQ, gL_sD]; first | done | assumption | with_reducible rfl) | rfl) ?_
        refine r_iconst (v := nI 4) dX3_named_18 (by decide) ?_
        refine r_bipush (v := nI 6) dX3_named_19 (by decide) ?_
        refine r_iload dX3_named_21 rfl ?_
        refine r_imul dX3_named_23 ?_
        refine r_iadd dX3_named_24 ?_
        refine r_iconst (v := nI 3) dX3_named_25 (by decide) ?_
        refine r_iadd dX3_named_26 ?_
        refine r_iald dX3_named_27 (by first | assumption | (simp only [kd_sI, kd_sR, kd_sA, kd_sQ, kd_sL, kd_sD, ln_sI, ln_sR, ln_sA, ln_sQ, ln_sL, ln_sD, gI_sR, gI_sA, gI_sQ, gI_sL, gI_sD, gR_sI, gR_sA, gR_sQ, gR_sL, gR_sD, gA_sI, gA_sR, gA_sQ, gA_sL, gA_sD, gQ_sI, gQ_sR, gQ_sA, gQ_sL, gQ_sD, gL_sI, gL_sR, gL_sA, gL_sQ, gL_sD]; assumption) | simp [kd_sI, kd_sR, kd_sA, kd_sQ, kd_sL, kd_sD, ln_sI, ln_sR, ln_sA, ln_sQ, ln_sL, ln_sD, gI_sR, gI_sA, gI_sQ, gI_sL, gI_sD, gR_sI, gR_sA, gR_sQ, gR_sL, gR_sD, gA_sI, gA_sR, gA_sQ, gA_sL, gA_sD, gQ_sI, gQ_sR, gQ_sA, gQ_sL, gQ_sD, gL_sI, gL_sR, gL_sA, gL_sQ, gL_sD, kd_nO, kd_nA, *]) (by first | decide | assumption) (by first | assumption | exact gI_sIs | exact gR_sRs | with_reducible rfl | (simp only [kd_sI, kd_sR, kd_sA, kd_sQ, kd_sL, kd_sD, ln_sI, ln_sR, ln_sA, ln_sQ, ln_sL, ln_sD, gI_sR, gI_sA, gI_sQ, gI_sL, gI_sD, gR_sI, gR_sA, gR_sQ, gR_sL, gR_sD, gA_sI, gA_sR, gA_sQ, gA_sL, gA_sD, gQ_sI, gQ_sR, gQ_sA, gQ_sL, gQ_sD, gL_sI, gL_sR, gL_sA, gL_sQ, gL_sD]; first | done | assumption | with_reducible rfl) | rfl) (by first | with_reducible rfl | assumption | (simp only [nI_add, pk_mul, nI_1]; with_reducible rfl)) (by first | assumption | omega) (by first | assumption | omega) (by first | assumption | exact gI_sIs | exact gR_sRs | with_reducible rfl | (simp only [kd_sI, kd_sR, kd_sA, kd_sQ, kd_sL, kd_sD, ln_sI, ln_sR, ln_sA, ln_sQ, ln_sL, ln_sD, gI_sR, gI_sA, gI_sQ, gI_sL, gI_sD, gR_sI, gR_sA, gR_sQ, gR_sL, gR_sD, gA_sI, gA_sR, gA_sQ, gA_sL, gA_sD, gQ_sI, gQ_sR, gQ_sA, gQ_sL, gQ_sD, gL_sI, gL_sR, gL_sA, gL_sQ, gL_sD]; first | done | assumption | with_reducible rfl) | rfl) ?_
        refine r_iload_n (i := 3) dX3_named_28 rfl rfl ?_
        refine r_icmp_ne (tgt := 36) dX3_named_29 (by decide) (fun h29 => ?_) (fun h29 => ?_)
        · have hb : (g (7 + 6 * t) == nI L) = false := beq_eq_false_iff_ne.mpr h29
          refine r_iconst (v := nI 0) dX3_named_36 (by decide) ?_
          refine r_istore dX3_named_37 (Nat.le_of_ble_eq_true rfl) (by simp only [lset]; rfl) ?_
          refine r_iconst (v := nI 0) dX3_named_39 (by decide) ?_
          refine r_istore dX3_named_40 (Nat.le_of_ble_eq_true rfl) (by simp only [lset]; rfl) ?_
          exact nos (by rw [hb]; rfl) 0 (Nat.zero_le _)
        · have hb : (g (7 + 6 * t) == nI L) = true := by rw [h29]; exact beq_self_eq_true _
          rw [hb, Bool.true_and] at yes no nos
          refine r_iconst (v := nI 1) dX3_named_32 (by decide) ?_
          refine r_goto (tgt := 37) dX3_named_33 (by decide) ?_
          refine r_istore dX3_named_37 (Nat.le_of_ble_eq_true rfl) (by simp only [lset]; rfl) ?_
          refine r_iconst (v := nI 0) dX3_named_39 (by decide) ?_
          refine r_istore dX3_named_40 (Nat.le_of_ble_eq_true rfl) (by simp only [lset]; rfl) ?_
          have inner : ∀ (k' i : Nat), i + k' = L → find9 (fun i => !(g (4 + 6 * t + i) == nI (nm.getD i 0))) 0 L = find9 (fun i => !(g (4 + 6 * t + i) == nI (nm.getD i 0))) i k' → AW mX3_named G d Qr Qx 0 0 H 42 [some (vR (some m)), some (vR (some a)), some (vI (nI fr)), some (vI (nI L)), some (vI (nI t)), some (vI (nI 1)), some (vI (nI i))] [] := by
            intro k'
            induction k' with
            | zero =>
              intro i hi hf2
              refine r_iload dX3_named_42 rfl ?_
              refine r_iload_n (i := 3) dX3_named_44 rfl rfl ?_
              refine r_icmp_ge (tgt := 90) dX3_named_45 (by decide) (fun h45 => ?_) (fun h45 => ?_)
              · exact yes (by rw [hf2]; rfl) _
              · exact absurd (nI_le (by omega) (by omega)) h45
            | succ k' ih2 =>
              intro i hi hf2
              have hTi := hT i (by omega)
              rw [find9] at hf2
              have g9 : gA H 1068 (ma 68) (4 + 6 * t + i) = g (4 + 6 * t + i) := by rw [← hg]
              refine r_iload dX3_named_42 rfl ?_
              refine r_iload_n (i := 3) dX3_named_44 rfl rfl ?_
              refine r_icmp_ge (tgt := 90) dX3_named_45 (by decide) (fun h45 => ?_) (fun h45 => ?_)
              · exact absurd h45 (nI_ge (by omega) (by omega))
              · refine r_iload dX3_named_48 rfl ?_
                refine r_if_eq (tgt := 90) dX3_named_50 (by decide) (fun h50 => ?_) (fun h50 => ?_)
                · exact absurd h50 (by decide)
                · refine r_aload_n (i := 0) dX3_named_53 rfl rfl ?_
                  refine r_getR dX3_named_54 fR_X3_7 (by first | assumption | (simp only [kd_sI, kd_sR, kd_sA, kd_sQ, kd_sL, kd_sD, ln_sI, ln_sR, ln_sA, ln_sQ, ln_sL, ln_sD, gI_sR, gI_sA, gI_sQ, gI_sL, gI_sD, gR_sI, gR_sA, gR_sQ, gR_sL, gR_sD, gA_sI, gA_sR, gA_sQ, gA_sL, gA_sD, gQ_sI, gQ_sR, gQ_sA, gQ_sL, gQ_sD, gL_sI, gL_sR, gL_sA, gL_sQ, gL_sD]; assumption) | simp [kd_sI, kd_sR, kd_sA, kd_sQ, kd_sL, kd_sD, ln_sI, ln_sR, ln_sA, ln_sQ, ln_sL, ln_sD, gI_sR, gI_sA, gI_sQ, gI_sL, gI_sD, gR_sI, gR_sA, gR_sQ, gR_sL, gR_sD, gA_sI, gA_sR, gA_sQ, gA_sL, gA_sD, gQ_sI, gQ_sR, gQ_sA, gQ_sL, gQ_sD, gL_sI, gL_sR, gL_sA, gL_sQ, gL_sD, kd_nO, kd_nA, *]) (by first | assumption | exact gI_sIs | exact gR_sRs | with_reducible rfl | (simp only [kd_sI, kd_sR, kd_sA, kd_sQ, kd_sL, kd_sD, ln_sI, ln_sR, ln_sA, ln_sQ, ln_sL, ln_sD, gI_sR, gI_sA, gI_sQ, gI_sL, gI_sD, gR_sI, gR_sA, gR_sQ, gR_sL, gR_sD, gA_sI, gA_sR, gA_sQ, gA_sL, gA_sD, gQ_sI, gQ_sR, gQ_sA, gQ_sL, gQ_sD, gL_sI, gL_sR, gL_sA, gL_sQ, gL_sD]; first | done | assumption | with_reducible rfl) | rfl) ?_
                  refine r_iconst (v := nI 4) dX3_named_57 (by decide) ?_
                  refine r_bipush (v := nI 6) dX3_named_58 (by decide) ?_
                  refine r_iload dX3_named_60 rfl ?_
                  refine r_imul dX3_named_62 ?_
                  refine r_iadd dX3_named_63 ?_
                  refine r_iload dX3_named_64 rfl ?_
                  refine r_iadd dX3_named_66 ?_
                  refine r_iald dX3_named_67 (by first | assumption | (simp only [kd_sI, kd_sR, kd_sA, kd_sQ, kd_sL, kd_sD, ln_sI, ln_sR, ln_sA, ln_sQ, ln_sL, ln_sD, gI_sR, gI_sA, gI_sQ, gI_sL, gI_sD, gR_sI, gR_sA, gR_sQ, gR_sL, gR_sD, gA_sI, gA_sR, gA_sQ, gA_sL, gA_sD, gQ_sI, gQ_sR, gQ_sA, gQ_sL, gQ_sD, gL_sI, gL_sR, gL_sA, gL_sQ, gL_sD]; assumption) | simp [kd_sI, kd_sR, kd_sA, kd_sQ, kd_sL, kd_sD, ln_sI, ln_sR, ln_sA, ln_sQ, ln_sL, ln_sD, gI_sR, gI_sA, gI_sQ, gI_sL, gI_sD, gR_sI, gR_sA, gR_sQ, gR_sL, gR_sD, gA_sI, gA_sR, gA_sQ, gA_sL, gA_sD, gQ_sI, gQ_sR, gQ_sA, gQ_sL, gQ_sD, gL_sI, gL_sR, gL_sA, gL_sQ, gL_sD, kd_nO, kd_nA, *]) (by first | decide | assumption) (by first | assumption | exact gI_sIs | exact gR_sRs | with_reducible rfl | (simp only [kd_sI, kd_sR, kd_sA, kd_sQ, kd_sL, kd_sD, ln_sI, ln_sR, ln_sA, ln_sQ, ln_sL, ln_sD, gI_sR, gI_sA, gI_sQ, gI_sL, gI_sD, gR_sI, gR_sA, gR_sQ, gR_sL, gR_sD, gA_sI, gA_sR, gA_sQ, gA_sL, gA_sD, gQ_sI, gQ_sR, gQ_sA, gQ_sL, gQ_sD, gL_sI, gL_sR, gL_sA, gL_sQ, gL_sD]; first | done | assumption | with_reducible rfl) | rfl) (by first | with_reducible rfl | assumption | (simp only [nI_add, pk_mul, nI_1]; with_reducible rfl)) (by first | assumption | omega) (by first | assumption | omega) (by first | assumption | exact gI_sIs | exact gR_sRs | with_reducible rfl | (simp only [kd_sI, kd_sR, kd_sA, kd_sQ, kd_sL, kd_sD, ln_sI, ln_sR, ln_sA, ln_sQ, ln_sL, ln_sD, gI_sR, gI_sA, gI_sQ, gI_sL, gI_sD, gR_sI, gR_sA, gR_sQ, gR_sL, gR_sD, gA_sI, gA_sR, gA_sQ, gA_sL, gA_sD, gQ_sI, gQ_sR, gQ_sA, gQ_sL, gQ_sD, gL_sI, gL_sR, gL_sA, gL_sQ, gL_sD]; first | done | assumption | with_reducible rfl) | rfl) ?_
                  refine r_aload_n (i := 1) dX3_named_68 rfl rfl ?_
                  refine r_iload_n (i := 2) dX3_named_69 rfl rfl ?_
                  refine r_iload dX3_named_70 rfl ?_
                  refine r_iadd dX3_named_72 ?_
                  refine r_iald dX3_named_73 (by first | assumption | (simp only [kd_sI, kd_sR, kd_sA, kd_sQ, kd_sL, kd_sD, ln_sI, ln_sR, ln_sA, ln_sQ, ln_sL, ln_sD, gI_sR, gI_sA, gI_sQ, gI_sL, gI_sD, gR_sI, gR_sA, gR_sQ, gR_sL, gR_sD, gA_sI, gA_sR, gA_sQ, gA_sL, gA_sD, gQ_sI, gQ_sR, gQ_sA, gQ_sL, gQ_sD, gL_sI, gL_sR, gL_sA, gL_sQ, gL_sD]; assumption) | simp [kd_sI, kd_sR, kd_sA, kd_sQ, kd_sL, kd_sD, ln_sI, ln_sR, ln_sA, ln_sQ, ln_sL, ln_sD, gI_sR, gI_sA, gI_sQ, gI_sL, gI_sD, gR_sI, gR_sA, gR_sQ, gR_sL, gR_sD, gA_sI, gA_sR, gA_sQ, gA_sL, gA_sD, gQ_sI, gQ_sR, gQ_sA, gQ_sL, gQ_sD, gL_sI, gL_sR, gL_sA, gL_sQ, gL_sD, kd_nO, kd_nA, *]) (by first | decide | assumption) (by first | assumption | exact gI_sIs | exact gR_sRs | with_reducible rfl | (simp only [kd_sI, kd_sR, kd_sA, kd_sQ, kd_sL, kd_sD, ln_sI, ln_sR, ln_sA, ln_sQ, ln_sL, ln_sD, gI_sR, gI_sA, gI_sQ, gI_sL, gI_sD, gR_sI, gR_sA, gR_sQ, gR_sL, gR_sD, gA_sI, gA_sR, gA_sQ, gA_sL, gA_sD, gQ_sI, gQ_sR, gQ_sA, gQ_sL, gQ_sD, gL_sI, gL_sR, gL_sA, gL_sQ, gL_sD]; first | done | assumption | with_reducible rfl) | rfl) (by first | with_reducible rfl | assumption | (simp only [nI_add, pk_mul, nI_1]; with_reducible rfl)) (by first | assumption | omega) (by first | assumption | omega) (by first | assumption | exact gI_sIs | exact gR_sRs | with_reducible rfl | (simp only [kd_sI, kd_sR, kd_sA, kd_sQ, kd_sL, kd_sD, ln_sI, ln_sR, ln_sA, ln_sQ, ln_sL, ln_sD, gI_sR, gI_sA, gI_sQ, gI_sL, gI_sD, gR_sI, gR_sA, gR_sQ, gR_sL, gR_sD, gA_sI, gA_sR, gA_sQ, gA_sL, gA_sD, gQ_sI, gQ_sR, gQ_sA, gQ_sL, gQ_sD, gL_sI, gL_sR, gL_sA, gL_sQ, gL_sD]; first | done | assumption | with_reducible rfl) | rfl) ?_
                  refine r_icmp_ne (tgt := 81) dX3_named_74 (by decide) (fun h74 => ?_) (fun h74 => ?_)
                  · have hb2 : (g (4 + 6 * t + i) == nI (nm.getD i 0)) = false := beq_eq_false_iff_ne.mpr h74
                    rw [hb2, if_pos (by decide)] at hf2
                    refine r_iconst (v := nI 0) dX3_named_81 (by decide) ?_
                    refine r_istore dX3_named_82 (Nat.le_of_ble_eq_true rfl) (by simp only [lset]; rfl) ?_
                    refine r_iinc dX3_named_84 rfl (by first | exact nI_1 _ | rfl) (by simp only [lset]; rfl) ?_
                    refine r_goto (tgt := 42) dX3_named_87 (by decide) ?_
                    exact nos (by rw [hf2]; rfl) (i + 1) (by omega)
                  · have hb2 : (g (4 + 6 * t + i) == nI (nm.getD i 0)) = true := by rw [h74]; exact beq_self_eq_true _
                    rw [hb2, if_neg (by decide)] at hf2
                    refine r_iconst (v := nI 1) dX3_named_77 (by decide) ?_
                    refine r_goto (tgt := 82) dX3_named_78 (by decide) ?_
                    refine r_istore dX3_named_82 (Nat.le_of_ble_eq_true rfl) (by simp only [lset]; rfl) ?_
                    refine r_iinc dX3_named_84 rfl (by first | exact nI_1 _ | rfl) (by simp only [lset]; rfl) ?_
                    refine r_goto (tgt := 42) dX3_named_87 (by decide) ?_
                    exact ih2 (i + 1) (by omega) hf2
          exact inner L 0 (by omega) rfl
  exact loop Y 0 _ _ (by omega) rfl
theorem s_typeNamed {B : List Nat} (hd : 1 ≤ d) (hM : MO H m ma) (hB : GB (gA H 1068 (ma 68))) (hR : BufR H m ma B)
    (hQ : Qr (some (vI (oI (if B.length ≤ 3 then q_named (gA H 1068 (ma 68)) B else none)))) (sI H 77 m (nI 0))) : AMet G d 0 0 yX3_typeNamed wX3_typeNamed H [vR (some m)] Qr Qx := by
  have e0 := hM.1
  have hU : MU m ma [77] H (sI H 77 m (nI 0)) := MU.rf.sI (by decide) (by decide) (by decide)
  have hM1 := hM.mf hU.1
  have e01 := hM1.1
  have hR1 := hR.mu hU (by decide) (by decide)
  obtain ⟨b1, b2, b3, b4⟩ := hR1
  obtain ⟨e68a_1, e68b_1, e68c_1⟩ : gR (sI H 77 m (nI 0)) 68 m = some (ma 68) ∧ kd (sI H 77 m (nI 0)) (ma 68) = 1068 ∧ ln (sI H 77 m (nI 0)) (ma 68) = 385 := hM1.2 68 (by decide)
  obtain ⟨e88a_1, e88b_1, e88c_1⟩ : gR (sI H 77 m (nI 0)) 88 m = some (ma 88) ∧ kd (sI H 77 m (nI 0)) (ma 88) = 1088 ∧ ln (sI H 77 m (nI 0)) (ma 88) = 60 := hM1.2 88 (by decide)
  refine AMet.of (M := mX3_typeNamed) (maxL := 1) rfl rfl (Nat.le_of_ble_eq_true rfl) ?_
  show AW mX3_typeNamed _ _ _ _ _ _ _ 0 [some (vR (some m))] []
  refine r_aload_n (i := 0) dX3_typeNamed_0 rfl rfl ?_
  refine r_iconst (v := nI 0) dX3_typeNamed_1 (by decide) ?_
  refine r_putI dX3_typeNamed_2 fG_X3_66 (fun _ => by first | rfl | contradiction) (by first | assumption | (simp only [kd_sI, kd_sR, kd_sA, kd_sQ, kd_sL, kd_sD, ln_sI, ln_sR, ln_sA, ln_sQ, ln_sL, ln_sD, gI_sR, gI_sA, gI_sQ, gI_sL, gI_sD, gR_sI, gR_sA, gR_sQ, gR_sL, gR_sD, gA_sI, gA_sR, gA_sQ, gA_sL, gA_sD, gQ_sI, gQ_sR, gQ_sA, gQ_sL, gQ_sD, gL_sI, gL_sR, gL_sA, gL_sQ, gL_sD]; assumption) | simp [kd_sI, kd_sR, kd_sA, kd_sQ, kd_sL, kd_sD, ln_sI, ln_sR, ln_sA, ln_sQ, ln_sL, ln_sD, gI_sR, gI_sA, gI_sQ, gI_sL, gI_sD, gR_sI, gR_sA, gR_sQ, gR_sL, gR_sD, gA_sI, gA_sR, gA_sQ, gA_sL, gA_sD, gQ_sI, gQ_sR, gQ_sA, gQ_sL, gQ_sD, gL_sI, gL_sR, gL_sA, gL_sQ, gL_sD, kd_nO, kd_nA, *]) (by first | rfl | assumption) (by first | rfl | assumption) ?_
  refine r_aload_n (i := 0) dX3_typeNamed_5 rfl rfl ?_
  refine r_getI dX3_typeNamed_6 fR_X3_209 (by first | assumption | (simp only [kd_sI, kd_sR, kd_sA, kd_sQ, kd_sL, kd_sD, ln_sI, ln_sR, ln_sA, ln_sQ, ln_sL, ln_sD, gI_sR, gI_sA, gI_sQ, gI_sL, gI_sD, gR_sI, gR_sA, gR_sQ, gR_sL, gR_sD, gA_sI, gA_sR, gA_sQ, gA_sL, gA_sD, gQ_sI, gQ_sR, gQ_sA, gQ_sL, gQ_sD, gL_sI, gL_sR, gL_sA, gL_sQ, gL_sD]; assumption) | simp [kd_sI, kd_sR, kd_sA, kd_sQ, kd_sL, kd_sD, ln_sI, ln_sR, ln_sA, ln_sQ, ln_sL, ln_sD, gI_sR, gI_sA, gI_sQ, gI_sL, gI_sD, gR_sI, gR_sA, gR_sQ, gR_sL, gR_sD, gA_sI, gA_sR, gA_sQ, gA_sL, gA_sD, gQ_sI, gQ_sR, gQ_sA, gQ_sL, gQ_sD, gL_sI, gL_sR, gL_sA, gL_sQ, gL_sD, kd_nO, kd_nA, *]) (by first | assumption | exact gI_sIs | exact gR_sRs | with_reducible rfl | (simp only [kd_sI, kd_sR, kd_sA, kd_sQ, kd_sL, kd_sD, ln_sI, ln_sR, ln_sA, ln_sQ, ln_sL, ln_sD, gI_sR, gI_sA, gI_sQ, gI_sL, gI_sD, gR_sI, gR_sA, gR_sQ, gR_sL, gR_sD, gA_sI, gA_sR, gA_sQ, gA_sL, gA_sD, gQ_sI, gQ_sR, gQ_sA, gQ_sL, gQ_sD, gL_sI, gL_sR, gL_sA, gL_sQ, gL_sD]; first | done | assumption | with_reducible rfl) | rfl) ?_
  refine r_iconst (v := nI 3) dX3_typeNamed_9 (by decide) ?_
  refine r_icmp_le (tgt := 17) dX3_typeNamed_10 (by decide) (fun h10 => ?_) (fun h10 => ?_)
  · have hl := (nI_leI (by omega) (by omega)).mp h10
    rw [if_pos hl] at hQ
    refine r_aload_n (i := 0) dX3_typeNamed_17 rfl rfl ?_
    refine r_aload_n (i := 0) dX3_typeNamed_18 rfl rfl ?_
    refine r_getR dX3_typeNamed_19 fR_X3_50 (by first | assumption | (simp only [kd_sI, kd_sR, kd_sA, kd_sQ, kd_sL, kd_sD, ln_sI, ln_sR, ln_sA, ln_sQ, ln_sL, ln_sD, gI_sR, gI_sA, gI_sQ, gI_sL, gI_sD, gR_sI, gR_sA, gR_sQ, gR_sL, gR_sD, gA_sI, gA_sR, gA_sQ, gA_sL, gA_sD, gQ_sI, gQ_sR, gQ_sA, gQ_sL, gQ_sD, gL_sI, gL_sR, gL_sA, gL_sQ, gL_sD]; assumption) | simp [kd_sI, kd_sR, kd_sA, kd_sQ, kd_sL, kd_sD, ln_sI, ln_sR, ln_sA, ln_sQ, ln_sL, ln_sD, gI_sR, gI_sA, gI_sQ, gI_sL, gI_sD, gR_sI, gR_sA, gR_sQ, gR_sL, gR_sD, gA_sI, gA_sR, gA_sQ, gA_sL, gA_sD, gQ_sI, gQ_sR, gQ_sA, gQ_sL, gQ_sD, gL_sI, gL_sR, gL_sA, gL_sQ, gL_sD, kd_nO, kd_nA, *]) (by first | assumption | exact gI_sIs | exact gR_sRs | with_reducible rfl | (simp only [kd_sI, kd_sR, kd_sA, kd_sQ, kd_sL, kd_sD, ln_sI, ln_sR, ln_sA, ln_sQ, ln_sL, ln_sD, gI_sR, gI_sA, gI_sQ, gI_sL, gI_sD, gR_sI, gR_sA, gR_sQ, gR_sL, gR_sD, gA_sI, gA_sR, gA_sQ, gA_sL, gA_sD, gQ_sI, gQ_sR, gQ_sA, gQ_sL, gQ_sD, gL_sI, gL_sR, gL_sA, gL_sQ, gL_sD]; first | done | assumption | with_reducible rfl) | rfl) ?_
    refine r_iconst (v := nI 0) dX3_typeNamed_22 (by decide) ?_
    refine r_aload_n (i := 0) dX3_typeNamed_23 rfl rfl ?_
    refine r_getI dX3_typeNamed_24 fR_X3_209 (by first | assumption | (simp only [kd_sI, kd_sR, kd_sA, kd_sQ, kd_sL, kd_sD, ln_sI, ln_sR, ln_sA, ln_sQ, ln_sL, ln_sD, gI_sR, gI_sA, gI_sQ, gI_sL, gI_sD, gR_sI, gR_sA, gR_sQ, gR_sL, gR_sD, gA_sI, gA_sR, gA_sQ, gA_sL, gA_sD, gQ_sI, gQ_sR, gQ_sA, gQ_sL, gQ_sD, gL_sI, gL_sR, gL_sA, gL_sQ, gL_sD]; assumption) | simp [kd_sI, kd_sR, kd_sA, kd_sQ, kd_sL, kd_sD, ln_sI, ln_sR, ln_sA, ln_sQ, ln_sL, ln_sD, gI_sR, gI_sA, gI_sQ, gI_sL, gI_sD, gR_sI, gR_sA, gR_sQ, gR_sL, gR_sD, gA_sI, gA_sR, gA_sQ, gA_sL, gA_sD, gQ_sI, gQ_sR, gQ_sA, gQ_sL, gQ_sD, gL_sI, gL_sR, gL_sA, gL_sQ, gL_sD, kd_nO, kd_nA, *]) (by first | assumption | exact gI_sIs | exact gR_sRs | with_reducible rfl | (simp only [kd_sI, kd_sR, kd_sA, kd_sQ, kd_sL, kd_sD, ln_sI, ln_sR, ln_sA, ln_sQ, ln_sL, ln_sD, gI_sR, gI_sA, gI_sQ, gI_sL, gI_sD, gR_sI, gR_sA, gR_sQ, gR_sL, gR_sD, gA_sI, gA_sR, gA_sQ, gA_sL, gA_sD, gQ_sI, gQ_sR, gQ_sA, gQ_sL, gQ_sD, gL_sI, gL_sR, gL_sA, gL_sQ, gL_sD]; first | done | assumption | with_reducible rfl) | rfl) ?_
    refine r_callV (As := [_, _, _]) (mc' := 0) (ms' := 0) dX3_typeNamed_27 k_X3_246 rfl (by first | assumption | (simp only [kd_sI, kd_sR, kd_sA, kd_sQ, kd_sL, kd_sD, ln_sI, ln_sR, ln_sA, ln_sQ, ln_sL, ln_sD, gI_sR, gI_sA, gI_sQ, gI_sL, gI_sD, gR_sI, gR_sA, gR_sQ, gR_sL, gR_sD, gA_sI, gA_sR, gA_sQ, gA_sL, gA_sD, gQ_sI, gQ_sR, gQ_sA, gQ_sL, gQ_sD, gL_sI, gL_sR, gL_sA, gL_sQ, gL_sD]; assumption) | simp [kd_sI, kd_sR, kd_sA, kd_sQ, kd_sL, kd_sD, ln_sI, ln_sR, ln_sA, ln_sQ, ln_sL, ln_sD, gI_sR, gI_sA, gI_sQ, gI_sL, gI_sD, gR_sI, gR_sA, gR_sQ, gR_sL, gR_sD, gA_sI, gA_sR, gA_sQ, gA_sL, gA_sD, gQ_sI, gQ_sR, gQ_sA, gQ_sL, gQ_sD, gL_sI, gL_sR, gL_sA, gL_sQ, gL_sD, kd_nO, kd_nA, *]) (T := TX3) (N := 27) rfl (by first | assumption | omega) (by first | assumption | omega) (by first | assumption | omega) (Nat.le_of_ble_eq_true rfl) ?_
    refine s_named (H := sI H 77 m (nI 0)) (nm := B) (fr := 0) hM1 hB e88b_1 (by decide) e88c_1 (by omega) (by omega) hl (fun i hi => by rw [Nat.zero_add]; exact b3 i hi) ?_
    refine r_ireturn dX3_typeNamed_30 rfl (by first | rfl | assumption | exact vp_nar_int _ | exact pk_nc _) ?_
    exact hQ
  · have hl : ¬ B.length ≤ 3 := fun q => h10 (nI_le q (by omega))
    rw [if_neg hl] at hQ
    refine r_iconst (v := -1) dX3_typeNamed_13 (by decide) ?_
    refine r_goto (tgt := 30) dX3_typeNamed_14 (by decide) ?_
    refine r_ireturn dX3_typeNamed_30 rfl (by first | rfl | assumption | exact vp_nar_int _ | exact pk_nc _) ?_
    exact hQ
end Mo22
