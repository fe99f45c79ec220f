set_option maxRecDepth 100000
/-! the search: in both classes the trays are gone through in their order, depth first -/
def GT (g : Nat → Int32) : Prop := ∀ t, t < nat g 40 → isN g (41 + 5 * t) 8 ∧ isN g (42 + 5 * t) 8 ∧ nat g (41 + 5 * t) ≠ nat g (42 + 5 * t)
abbrev Best : Type := Option (List Nat × Int32)
def ed (g : Nat → Int32) (t p : Nat) : Option Nat := if nat g (41 + 5 * t) = p then some (nat g (42 + 5 * t)) else if nat g (42 + 5 * t) = p then some (nat g (41 + 5 * t)) else none
def bUp (row : List Nat) (s : Int32) (b : Best) : Best := match b with
  | none => some (row, s)
  | some (r, s0) => if s < s0 ∨ (s = s0 ∧ row.length < r.length) then some (row, s) else some (r, s0)
def scan (step : Nat → Best → Best) : Nat → Nat → Best → Best
  | _, 0, b => b
  | t, n + 1, b => scan step (t + 1) n (step t b)
def dfsStep (rec : Nat → Nat → List Nat → Int32 → Best → Best) (g : Nat → Int32) (op : Nat → Bool) (to p mask : Nat) (row : List Nat) (s : Int32) (t : Nat) (b : Best) : Best :=
  match ed g t p with
  | none => b
  | some o => if mask.testBit o || !op t then b else if o = to then bUp (row ++ [t]) (s + g (43 + 5 * t)) b else rec o (mask ||| 2 ^ o) (row ++ [t]) (s + g (43 + 5 * t)) b
def dfs (g : Nat → Int32) (op : Nat → Bool) (to : Nat) : Nat → Nat → Nat → List Nat → Int32 → Best → Best
  | 0 => fun _ _ _ _ b => b
  | f + 1 => fun p mask row s b => scan (dfsStep (dfs g op to f) g op to p mask row s) 0 (nat g 40) b
def zB (mask : Nat) : Nat := (List.range 8).countP (fun i => !mask.testBit i)
theorem bm_all : ∀ mask, mask < 256 → ∀ o, o < 8 → ((nI mask >>> (nI o &&& 31)) &&& nI 1) = (if mask.testBit o then nI 1 else nI 0) ∧ (nI mask ||| (nI 1 <<< (nI o &&& 31))) = nI (mask ||| 2 ^ o) ∧ (mask.testBit o = false → (nI (mask ||| 2 ^ o) &&& ((nI 1 <<< (nI o &&& 31)) ^^^ (-1))) = nI mask ∧ zB (mask ||| 2 ^ o) + 1 = zB mask) ∧ mask ||| 2 ^ o < 256 ∧ (mask ||| 2 ^ o).testBit o = true := by decide +kernel
theorem bm_oth : ∀ mask, mask < 256 → ∀ o, o < 8 → ∀ q, q < 8 → q ≠ o → (mask ||| 2 ^ o).testBit q = mask.testBit q := by
  intro mask _ o _ q _ h
  rw [Nat.testBit_or, Nat.testBit_two_pow]
  simp [Ne.symm h]
theorem bm_1 : ∀ o, o < 8 → (nI 1 <<< (nI o &&& 31)) = nI (2 ^ o) ∧ zB (2 ^ o) = 7 ∧ 2 ^ o < 256 ∧ (2 ^ o).testBit o = true ∧ ∀ q, q < 8 → q ≠ o → (2 ^ o).testBit q = false := by decide +kernel
theorem nI_eq8 {a b : Nat} (ha : a < 8) (hb : b < 8) : nI a = nI b ↔ a = b := nI_eq (by omega) (by omega)
theorem q_at_ed {g : Nat → Int32} {t p : Nat} (hT : GT g) (ht : t < nat g 40) (hp : p < 8) : q_at g t (nI p) = (ed g t p).isSome := by
  obtain ⟨⟨a1, a2⟩, ⟨b1, b2⟩, -⟩ := hT t ht
  unfold q_at ed
  rw [a1, b1]
  by_cases h1 : nat g (41 + 5 * t) = p
  · rw [if_pos h1, h1]; simp
  · rw [if_neg h1, decide_eq_false (fun q => h1 ((nI_eq8 a2 hp).mp q)), Bool.false_or]
    by_cases h2 : nat g (42 + 5 * t) = p
    · rw [if_pos h2, h2]; simp
    · rw [if_neg h2, decide_eq_false (fun q => h2 ((nI_eq8 b2 hp).mp q))]; rfl
theorem q_other_ed {g : Nat → Int32} {t p o : Nat} (hT : GT g) (ht : t < nat g 40) (hp : p < 8) (h : ed g t p = some o) : q_other g t (nI p) = nI o ∧ o < 8 ∧ o ≠ p := by
  obtain ⟨⟨a1, a2⟩, ⟨b1, b2⟩, hne⟩ := hT t ht
  unfold ed at h
  unfold q_other
  rw [a1, b1]
  by_cases h1 : nat g (41 + 5 * t) = p
  · rw [if_pos h1] at h
    cases h
    rw [h1, if_pos rfl]
    exact ⟨rfl, b2, fun q => hne (h1.trans q.symm)⟩
  · rw [if_neg h1] at h
    by_cases h2 : nat g (42 + 5 * t) = p
    · rw [if_pos h2] at h
      cases h
      rw [if_neg (fun q => h1 ((nI_eq8 a2 hp).mp q)), h2, nI_add, pk_sub (by omega)]
      exact ⟨by rw [Nat.add_sub_cancel], a2, h1⟩
    · rw [if_neg h2] at h; cases h
/-- how the reference keeps the best way -/
def BRep (H : AH) (m : Nat) (ma : Nat → Nat) : Best → Prop
  | none => gI H 81 m = nI 0
  | some (r, s) => gI H 81 m = nI r.length ∧ r ≠ [] ∧ gI H 82 m = s ∧ r.length ≤ 8 ∧ ∀ k, k < r.length → gA H 1080 (ma 80) k = nI (r.getD k 0)
theorem ex_val {α : Type} (x : α) : ∃ y, y = x := ⟨x, rfl⟩
theorem AW.name {M : MI} {G : Gl} {d : Nat} {Qr : Option AV → AH → Prop} {Qx : String → Nat → AH → Prop} {rc rs : Nat} {H : AH} {pc : Nat} {ls : List (Option AV)} {st : List AV} (k : ∀ H', H' = H → AW M G d Qr Qx rc rs H' pc ls st) : AW M G d Qr Qx rc rs H pc ls st := k H rfl
theorem dec_1 (n : Nat) : nI (n + 1) + Int32.ofInt (-1) = nI n := pk_m1 n
theorem upd_s {f : Nat → Int32} {k : Nat} {x : Int32} : upd f k x k = x := pk_us
section Mo5
variable {G : Gl} {d m : Nat} {ma : Nat → Nat} {Qr : Option AV → AH → Prop} {Qx : String → Nat → AH → Prop}
theorem way_mo {H0 : AH} {g : Nat → Int32} {op : Nat → Bool} {fr to : Nat} (hd : 2 ≤ d) (hM0 : MO H0 m ma) (hg : gA H0 1068 (ma 68) = g) (hB : GB g) (hT : GT g) (hop : ∀ t, t < nat g 40 → gA H0 3078 (ma 78) t = bI (op t)) (hto : to < 8) :
    ∀ (f deep p mask : Nat) (row : List Nat) (s : Int32), zB mask = f → deep + 1 + f = 8 → mask < 256 → mask.testBit to = false → p < 8 → mask.testBit p = true → row.length = deep →
    ∀ (n t0 : Nat) (b : Best) (H : AH) (x7 x9 : Option AV), t0 + n = nat g 40 → MU m ma [79, 80, 81, 82, 83] H0 H → gA H 1083 (ma 83) deep = nI p → (∀ i, i < deep → gA H 1079 (ma 79) i = nI (row.getD i 0)) → BRep H m ma b →
    (∀ (H' : AH) (y7 y8 y9 : Option AV), MU m ma [79, 80, 81, 82, 83] H0 H' → (∀ i, i ≤ deep → gA H' 1083 (ma 83) i = gA H 1083 (ma 83) i) → (∀ i, i < deep → gA H' 1079 (ma 79) i = nI (row.getD i 0)) → BRep H' m ma (scan (dfsStep (dfs g op to (f - 1)) g op to p mask row s) t0 n b) →
      AW mX3_findsWay G d Qr Qx 0 0 H' 37 [some (vR (some m)), some (vI (nI fr)), some (vI (nI to)), some (vR (some (ma 83))), some (vI (nI deep + Int32.ofInt (-1))), some (vI (nI mask)), some (vI s), y7, y8, y9] []) →
    AW mX3_findsWay G d Qr Qx 0 0 H 89 [some (vR (some m)), some (vI (nI fr)), some (vI (nI to)), some (vR (some (ma 83))), some (vI (nI deep)), some (vI (nI mask)), some (vI s), x7, some (vI (nI t0)), x9] [] := by
  intro f
  induction f with
  | zero =>
    intro deep p mask row s hz hdp hm hto0
    exact absurd hz (by
      intro hz
      have : ∀ mask, mask < 256 → zB mask = 0 → ∀ o, o < 8 → mask.testBit o = true := by decide +kernel
      rw [this mask hm hz to hto] at hto0
      cases hto0)
  | succ f ihf =>
    intro deep p mask row s hz hdp hm hto0 hp hpm hrow n
    obtain ⟨R, hRe⟩ := ex_val (nat g 40)
    have hR : g 40 = nI R ∧ R < 13 := by rw [hRe]; exact hB.2.1
    have hR13 := hR.2
    induction n with
    | zero =>
      intro t0 b H x7 x9 ht hU hat hrw hbr K
      have hM := hM0.mf hU.1
      have e0 := hM.1
      obtain ⟨e68a, e68b, e68c⟩ : gR H 68 m = some (ma 68) ∧ kd H (ma 68) = 1068 ∧ ln H (ma 68) = 385 := hM.2 68 (by decide)
      have hgH : gA H 1068 (ma 68) = g := by rw [hU.g68 (by decide)]; exact hg
      have hg40 : gA H 1068 (ma 68) 40 = nI R := by rw [hgH]; exact hR.1
      rw [scan] at K
      refine r_iload dX3_findsWay_89 rfl ?_
      refine r_aload_n (i := 0) dX3_findsWay_91 rfl rfl ?_
      refine r_getR dX3_findsWay_92 fR_X3_7 (by first | assumption | (simp only [kd_sI, kd_sR, kd_sA, kd_sQ, kd_sL, kd_sD, ln_sI, ln_sR, ln_sA, ln_sQ, ln_sL, ln_sD, gI_sR, gI_sA, gI_sQ, gI_sL, gI_sD, gR_sI, gR_sA, gR_sQ, gR_sL, gR_sD, gA_sI, gA_sR, gA_sQ, gA_sL, gA_sD, gQ_sI, gQ_sR, gQ_sA, gQ_sL, gQ_sD, gL_sI, gL_sR, gL_sA, gL_sQ, gL_sD]; assumption) | simp [kd_sI, kd_sR, kd_sA, kd_sQ, kd_sL, kd_sD, ln_sI, ln_sR, ln_sA, ln_sQ, ln_sL, ln_sD, gI_sR, gI_sA, gI_sQ, gI_sL, gI_sD, gR_sI, gR_sA, gR_sQ, gR_sL, gR_sD, gA_sI, gA_sR, gA_sQ, gA_sL, gA_sD, gQ_sI, gQ_sR, gQ_sA, gQ_sL, gQ_sD, gL_sI, gL_sR, gL_sA, gL_sQ, gL_sD, kd_nO, kd_nA, *]) (by first | assumption | exact gI_sIs | exact gR_sRs | with_reducible rfl | (simp only [kd_sI, kd_sR, kd_sA, kd_sQ, kd_sL, kd_sD, ln_sI, ln_sR, ln_sA, ln_sQ, ln_sL, ln_sD, gI_sR, gI_sA, gI_sQ, gI_sL, gI_sD, gR_sI, gR_sA, gR_sQ, gR_sL, gR_sD, gA_sI, gA_sR, gA_sQ, gA_sL, gA_sD, gQ_sI, gQ_sR, gQ_sA, gQ_sL, gQ_sD, gL_sI, gL_sR, gL_sA, gL_sQ, gL_sD]; first | done | assumption | with_reducible rfl) | rfl) ?_
      refine r_bipush (v := nI 40) dX3_findsWay_95 (by decide) ?_
      refine r_iald dX3_findsWay_97 (by first | assumption | (simp only [kd_sI, kd_sR, kd_sA, kd_sQ, kd_sL, kd_sD, ln_sI, ln_sR, ln_sA, ln_sQ, ln_sL, ln_sD, gI_sR, gI_sA, gI_sQ, gI_sL, gI_sD, gR_sI, gR_sA, gR_sQ, gR_sL, gR_sD, gA_sI, gA_sR, gA_sQ, gA_sL, gA_sD, gQ_sI, gQ_sR, gQ_sA, gQ_sL, gQ_sD, gL_sI, gL_sR, gL_sA, gL_sQ, gL_sD]; assumption) | simp [kd_sI, kd_sR, kd_sA, kd_sQ, kd_sL, kd_sD, ln_sI, ln_sR, ln_sA, ln_sQ, ln_sL, ln_sD, gI_sR, gI_sA, gI_sQ, gI_sL, gI_sD, gR_sI, gR_sA, gR_sQ, gR_sL, gR_sD, gA_sI, gA_sR, gA_sQ, gA_sL, gA_sD, gQ_sI, gQ_sR, gQ_sA, gQ_sL, gQ_sD, gL_sI, gL_sR, gL_sA, gL_sQ, gL_sD, kd_nO, kd_nA, *]) (by decide) (by first | assumption | exact gI_sIs | exact gR_sRs | with_reducible rfl | (simp only [kd_sI, kd_sR, kd_sA, kd_sQ, kd_sL, kd_sD, ln_sI, ln_sR, ln_sA, ln_sQ, ln_sL, ln_sD, gI_sR, gI_sA, gI_sQ, gI_sL, gI_sD, gR_sI, gR_sA, gR_sQ, gR_sL, gR_sD, gA_sI, gA_sR, gA_sQ, gA_sL, gA_sD, gQ_sI, gQ_sR, gQ_sA, gQ_sL, gQ_sD, gL_sI, gL_sR, gL_sA, gL_sQ, gL_sD]; first | done | assumption | with_reducible rfl) | rfl) (by first | with_reducible rfl | assumption | (simp only [nI_add, pk_mul, nI_1]; with_reducible rfl)) (by first | assumption | omega) (by first | assumption | omega) (by first | assumption | exact gI_sIs | exact gR_sRs | with_reducible rfl | (simp only [kd_sI, kd_sR, kd_sA, kd_sQ, kd_sL, kd_sD, ln_sI, ln_sR, ln_sA, ln_sQ, ln_sL, ln_sD, gI_sR, gI_sA, gI_sQ, gI_sL, gI_sD, gR_sI, gR_sA, gR_sQ, gR_sL, gR_sD, gA_sI, gA_sR, gA_sQ, gA_sL, gA_sD, gQ_sI, gQ_sR, gQ_sA, gQ_sL, gQ_sD, gL_sI, gL_sR, gL_sA, gL_sQ, gL_sD]; first | done | assumption | with_reducible rfl) | rfl) ?_
      refine r_icmp_ge (tgt := 149) dX3_findsWay_98 (by decide) (fun h98 => ?_) (fun h98 => ?_)
      · refine r_iload dX3_findsWay_149 rfl ?_
        refine r_aload_n (i := 0) dX3_findsWay_151 rfl rfl ?_
        refine r_getR dX3_findsWay_152 fR_X3_7 (by first | assumption | (simp only [kd_sI, kd_sR, kd_sA, kd_sQ, kd_sL, kd_sD, ln_sI, ln_sR, ln_sA, ln_sQ, ln_sL, ln_sD, gI_sR, gI_sA, gI_sQ, gI_sL, gI_sD, gR_sI, gR_sA, gR_sQ, gR_sL, gR_sD, gA_sI, gA_sR, gA_sQ, gA_sL, gA_sD, gQ_sI, gQ_sR, gQ_sA, gQ_sL, gQ_sD, gL_sI, gL_sR, gL_sA, gL_sQ, gL_sD]; assumption) | simp [kd_sI, kd_sR, kd_sA, kd_sQ, kd_sL, kd_sD, ln_sI, ln_sR, ln_sA, ln_sQ, ln_sL, ln_sD, gI_sR, gI_sA, gI_sQ, gI_sL, gI_sD, gR_sI, gR_sA, gR_sQ, gR_sL, gR_sD, gA_sI, gA_sR, gA_sQ, gA_sL, gA_sD, gQ_sI, gQ_sR, gQ_sA, gQ_sL, gQ_sD, gL_sI, gL_sR, gL_sA, gL_sQ, gL_sD, kd_nO, kd_nA, *]) (by first | assumption | exact gI_sIs | exact gR_sRs | with_reducible rfl | (simp only [kd_sI, kd_sR, kd_sA, kd_sQ, kd_sL, kd_sD, ln_sI, ln_sR, ln_sA, ln_sQ, ln_sL, ln_sD, gI_sR, gI_sA, gI_sQ, gI_sL, gI_sD, gR_sI, gR_sA, gR_sQ, gR_sL, gR_sD, gA_sI, gA_sR, gA_sQ, gA_sL, gA_sD, gQ_sI, gQ_sR, gQ_sA, gQ_sL, gQ_sD, gL_sI, gL_sR, gL_sA, gL_sQ, gL_sD]; first | done | assumption | with_reducible rfl) | rfl) ?_
        refine r_bipush (v := nI 40) dX3_findsWay_155 (by decide) ?_
        refine r_iald dX3_findsWay_157 (by first | assumption | (simp only [kd_sI, kd_sR, kd_sA, kd_sQ, kd_sL, kd_sD, ln_sI, ln_sR, ln_sA, ln_sQ, ln_sL, ln_sD, gI_sR, gI_sA, gI_sQ, gI_sL, gI_sD, gR_sI, gR_sA, gR_sQ, gR_sL, gR_sD, gA_sI, gA_sR, gA_sQ, gA_sL, gA_sD, gQ_sI, gQ_sR, gQ_sA, gQ_sL, gQ_sD, gL_sI, gL_sR, gL_sA, gL_sQ, gL_sD]; assumption) | simp [kd_sI, kd_sR, kd_sA, kd_sQ, kd_sL, kd_sD, ln_sI, ln_sR, ln_sA, ln_sQ, ln_sL, ln_sD, gI_sR, gI_sA, gI_sQ, gI_sL, gI_sD, gR_sI, gR_sA, gR_sQ, gR_sL, gR_sD, gA_sI, gA_sR, gA_sQ, gA_sL, gA_sD, gQ_sI, gQ_sR, gQ_sA, gQ_sL, gQ_sD, gL_sI, gL_sR, gL_sA, gL_sQ, gL_sD, kd_nO, kd_nA, *]) (by decide) (by first | assumption | exact gI_sIs | exact gR_sRs | with_reducible rfl | (simp only [kd_sI, kd_sR, kd_sA, kd_sQ, kd_sL, kd_sD, ln_sI, ln_sR, ln_sA, ln_sQ, ln_sL, ln_sD, gI_sR, gI_sA, gI_sQ, gI_sL, gI_sD, gR_sI, gR_sA, gR_sQ, gR_sL, gR_sD, gA_sI, gA_sR, gA_sQ, gA_sL, gA_sD, gQ_sI, gQ_sR, gQ_sA, gQ_sL, gQ_sD, gL_sI, gL_sR, gL_sA, gL_sQ, gL_sD]; first | done | assumption | with_reducible rfl) | rfl) (by first | with_reducible rfl | assumption | (simp only [nI_add, pk_mul, nI_1]; with_reducible rfl)) (by first | assumption | omega) (by first | assumption | omega) (by first | assumption | exact gI_sIs | exact gR_sRs | with_reducible rfl | (simp only [kd_sI, kd_sR, kd_sA, kd_sQ, kd_sL, kd_sD, ln_sI, ln_sR, ln_sA, ln_sQ, ln_sL, ln_sD, gI_sR, gI_sA, gI_sQ, gI_sL, gI_sD, gR_sI, gR_sA, gR_sQ, gR_sL, gR_sD, gA_sI, gA_sR, gA_sQ, gA_sL, gA_sD, gQ_sI, gQ_sR, gQ_sA, gQ_sL, gQ_sD, gL_sI, gL_sR, gL_sA, gL_sQ, gL_sD]; first | done | assumption | with_reducible rfl) | rfl) ?_
        refine r_icmp_ne (tgt := 167) dX3_findsWay_158 (by decide) (fun h158 => ?_) (fun h158 => ?_)
        · exact absurd (by rw [show t0 = R by omega]) h158
        · refine r_iinc dX3_findsWay_161 rfl (rfl) (by simp only [lset]; rfl) ?_
          refine r_goto (tgt := 37) dX3_findsWay_164 (by decide) ?_
          exact K H _ _ _ hU (fun _ _ => rfl) hrw hbr
      · exact absurd (nI_le (by omega) (by omega)) h98
    | succ n ihn =>
      intro t0 b H x7 x9 ht hU hat hrw hbr K
      have hM := hM0.mf hU.1
      have e0 := hM.1
      obtain ⟨e68a, e68b, e68c⟩ : gR H 68 m = some (ma 68) ∧ kd H (ma 68) = 1068 ∧ ln H (ma 68) = 385 := hM.2 68 (by decide)
      obtain ⟨e78a, e78b, e78c⟩ : gR H 78 m = some (ma 78) ∧ kd H (ma 78) = 3078 ∧ ln H (ma 78) = 12 := hM.2 78 (by decide)
      obtain ⟨e79a, e79b, e79c⟩ : gR H 79 m = some (ma 79) ∧ kd H (ma 79) = 1079 ∧ ln H (ma 79) = 8 := hM.2 79 (by decide)
      obtain ⟨e80a, e80b, e80c⟩ : gR H 80 m = some (ma 80) ∧ kd H (ma 80) = 1080 ∧ ln H (ma 80) = 8 := hM.2 80 (by decide)
      obtain ⟨e83a, e83b, e83c⟩ : gR H 83 m = some (ma 83) ∧ kd H (ma 83) = 1083 ∧ ln H (ma 83) = 9 := hM.2 83 (by decide)
      have hgH : gA H 1068 (ma 68) = g := by rw [hU.g68 (by decide)]; exact hg
      have hg40 : gA H 1068 (ma 68) 40 = nI R := by rw [hgH]; exact hR.1
      have hopt : gA H 3078 (ma 78) t0 = bI (op t0) := by
        rw [show gA H 3078 = gA H0 3078 from (hU.2 2078 (by decide)).2]
        exact hop t0 (by omega)
      rw [scan] at K
      have skip : dfsStep (dfs g op to f) g op to p mask row s t0 b = b → AW mX3_findsWay G d Qr Qx 0 0 H 143 [some (vR (some m)), some (vI (nI fr)), some (vI (nI to)), some (vR (some (ma 83))), some (vI (nI deep)), some (vI (nI mask)), some (vI s), x7, some (vI (nI t0)), x9] [] := by
        intro hst
        rw [show f + 1 - 1 = f by omega, hst] at K
        refine r_iinc dX3_findsWay_143 rfl (by first | exact nI_1 _ | rfl) (by simp only [lset]; rfl) ?_
        refine r_goto (tgt := 89) dX3_findsWay_146 (by decide) ?_
        exact ihn (t0 + 1) b H _ _ (by omega) hU hat hrw hbr K
      refine r_iload dX3_findsWay_89 rfl ?_
      refine r_aload_n (i := 0) dX3_findsWay_91 rfl rfl ?_
      refine r_getR dX3_findsWay_92 fR_X3_7 (by first | assumption | (simp only [kd_sI, kd_sR, kd_sA, kd_sQ, kd_sL, kd_sD, ln_sI, ln_sR, ln_sA, ln_sQ, ln_sL, ln_sD, gI_sR, gI_sA, gI_sQ, gI_sL, gI_sD, gR_sI, gR_sA, gR_sQ, gR_sL, gR_sD, gA_sI, gA_sR, gA_sQ, gA_sL, gA_sD, gQ_sI, gQ_sR, gQ_sA, gQ_sL, gQ_sD, gL_sI, gL_sR, gL_sA, gL_sQ, gL_sD]; assumption) | simp [kd_sI, kd_sR, kd_sA, kd_sQ, kd_sL, kd_sD, ln_sI, ln_sR, ln_sA, ln_sQ, ln_sL, ln_sD, gI_sR, gI_sA, gI_sQ, gI_sL, gI_sD, gR_sI, gR_sA, gR_sQ, gR_sL, gR_sD, gA_sI, gA_sR, gA_sQ, gA_sL, gA_sD, gQ_sI, gQ_sR, gQ_sA, gQ_sL, gQ_sD, gL_sI, gL_sR, gL_sA, gL_sQ, gL_sD, kd_nO, kd_nA, *]) (by first | assumption | exact gI_sIs | exact gR_sRs | with_reducible rfl | (simp only [kd_sI, kd_sR, kd_sA, kd_sQ, kd_sL, kd_sD, ln_sI, ln_sR, ln_sA, ln_sQ, ln_sL, ln_sD, gI_sR, gI_sA, gI_sQ, gI_sL, gI_sD, gR_sI, gR_sA, gR_sQ, gR_sL, gR_sD, gA_sI, gA_sR, gA_sQ, gA_sL, gA_sD, gQ_sI, gQ_sR, gQ_sA, gQ_sL, gQ_sD, gL_sI, gL_sR, gL_sA, gL_sQ, gL_sD]; first | done | assumption | with_reducible rfl) | rfl) ?_
      refine r_bipush (v := nI 40) dX3_findsWay_95 (by decide) ?_
      refine r_iald dX3_findsWay_97 (by first | assumption | (simp only [kd_sI, kd_sR, kd_sA, kd_sQ, kd_sL, kd_sD, ln_sI, ln_sR, ln_sA, ln_sQ, ln_sL, ln_sD, gI_sR, gI_sA, gI_sQ, gI_sL, gI_sD, gR_sI, gR_sA, gR_sQ, gR_sL, gR_sD, gA_sI, gA_sR, gA_sQ, gA_sL, gA_sD, gQ_sI, gQ_sR, gQ_sA, gQ_sL, gQ_sD, gL_sI, gL_sR, gL_sA, gL_sQ, gL_sD]; assumption) | simp [kd_sI, kd_sR, kd_sA, kd_sQ, kd_sL, kd_sD, ln_sI, ln_sR, ln_sA, ln_sQ, ln_sL, ln_sD, gI_sR, gI_sA, gI_sQ, gI_sL, gI_sD, gR_sI, gR_sA, gR_sQ, gR_sL, gR_sD, gA_sI, gA_sR, gA_sQ, gA_sL, gA_sD, gQ_sI, gQ_sR, gQ_sA, gQ_sL, gQ_sD, gL_sI, gL_sR, gL_sA, gL_sQ, gL_sD, kd_nO, kd_nA, *]) (by decide) (by first | assumption | exact gI_sIs | exact gR_sRs | with_reducible rfl | (simp only [kd_sI, kd_sR, kd_sA, kd_sQ, kd_sL, kd_sD, ln_sI, ln_sR, ln_sA, ln_sQ, ln_sL, ln_sD, gI_sR, gI_sA, gI_sQ, gI_sL, gI_sD, gR_sI, gR_sA, gR_sQ, gR_sL, gR_sD, gA_sI, gA_sR, gA_sQ, gA_sL, gA_sD, gQ_sI, gQ_sR, gQ_sA, gQ_sL, gQ_sD, gL_sI, gL_sR, gL_sA, gL_sQ, gL_sD]; first | done | assumption | with_reducible rfl) | rfl) (by first | with_reducible rfl | assumption | (simp only [nI_add, pk_mul, nI_1]; with_reducible rfl)) (by first | assumption | omega) (by first | assumption | omega) (by first | assumption | exact gI_sIs | exact gR_sRs | with_reducible rfl | (simp only [kd_sI, kd_sR, kd_sA, kd_sQ, kd_sL, kd_sD, ln_sI, ln_sR, ln_sA, ln_sQ, ln_sL, ln_sD, gI_sR, gI_sA, gI_sQ, gI_sL, gI_sD, gR_sI, gR_sA, gR_sQ, gR_sL, gR_sD, gA_sI, gA_sR, gA_sQ, gA_sL, gA_sD, gQ_sI, gQ_sR, gQ_sA, gQ_sL, gQ_sD, gL_sI, gL_sR, gL_sA, gL_sQ, gL_sD]; first | done | assumption | with_reducible rfl) | rfl) ?_
      refine r_icmp_ge (tgt := 149) dX3_findsWay_98 (by decide) (fun h98 => ?_) (fun h98 => ?_)
      · exact absurd h98 (nI_ge (by omega) (by omega))
      · refine r_aload_n (i := 0) dX3_findsWay_101 rfl rfl ?_
        refine r_getR dX3_findsWay_102 fR_X3_25 (by first | assumption | (simp only [kd_sI, kd_sR, kd_sA, kd_sQ, kd_sL, kd_sD, ln_sI, ln_sR, ln_sA, ln_sQ, ln_sL, ln_sD, gI_sR, gI_sA, gI_sQ, gI_sL, gI_sD, gR_sI, gR_sA, gR_sQ, gR_sL, gR_sD, gA_sI, gA_sR, gA_sQ, gA_sL, gA_sD, gQ_sI, gQ_sR, gQ_sA, gQ_sL, gQ_sD, gL_sI, gL_sR, gL_sA, gL_sQ, gL_sD]; assumption) | simp [kd_sI, kd_sR, kd_sA, kd_sQ, kd_sL, kd_sD, ln_sI, ln_sR, ln_sA, ln_sQ, ln_sL, ln_sD, gI_sR, gI_sA, gI_sQ, gI_sL, gI_sD, gR_sI, gR_sA, gR_sQ, gR_sL, gR_sD, gA_sI, gA_sR, gA_sQ, gA_sL, gA_sD, gQ_sI, gQ_sR, gQ_sA, gQ_sL, gQ_sD, gL_sI, gL_sR, gL_sA, gL_sQ, gL_sD, kd_nO, kd_nA, *]) (by first | assumption | exact gI_sIs | exact gR_sRs | with_reducible rfl | (simp only [kd_sI, kd_sR, kd_sA, kd_sQ, kd_sL, kd_sD, ln_sI, ln_sR, ln_sA, ln_sQ, ln_sL, ln_sD, gI_sR, gI_sA, gI_sQ, gI_sL, gI_sD, gR_sI, gR_sA, gR_sQ, gR_sL, gR_sD, gA_sI, gA_sR, gA_sQ, gA_sL, gA_sD, gQ_sI, gQ_sR, gQ_sA, gQ_sL, gQ_sD, gL_sI, gL_sR, gL_sA, gL_sQ, gL_sD]; first | done | assumption | with_reducible rfl) | rfl) ?_
        refine r_iload dX3_findsWay_105 rfl ?_
        refine r_zald dX3_findsWay_107 (by first | assumption | (simp only [kd_sI, kd_sR, kd_sA, kd_sQ, kd_sL, kd_sD, ln_sI, ln_sR, ln_sA, ln_sQ, ln_sL, ln_sD, gI_sR, gI_sA, gI_sQ, gI_sL, gI_sD, gR_sI, gR_sA, gR_sQ, gR_sL, gR_sD, gA_sI, gA_sR, gA_sQ, gA_sL, gA_sD, gQ_sI, gQ_sR, gQ_sA, gQ_sL, gQ_sD, gL_sI, gL_sR, gL_sA, gL_sQ, gL_sD]; assumption) | simp [kd_sI, kd_sR, kd_sA, kd_sQ, kd_sL, kd_sD, ln_sI, ln_sR, ln_sA, ln_sQ, ln_sL, ln_sD, gI_sR, gI_sA, gI_sQ, gI_sL, gI_sD, gR_sI, gR_sA, gR_sQ, gR_sL, gR_sD, gA_sI, gA_sR, gA_sQ, gA_sL, gA_sD, gQ_sI, gQ_sR, gQ_sA, gQ_sL, gQ_sD, gL_sI, gL_sR, gL_sA, gL_sQ, gL_sD, kd_nO, kd_nA, *]) (by decide) (by first | assumption | exact gI_sIs | exact gR_sRs | with_reducible rfl | (simp only [kd_sI, kd_sR, kd_sA, kd_sQ, kd_sL, kd_sD, ln_sI, ln_sR, ln_sA, ln_sQ, ln_sL, ln_sD, gI_sR, gI_sA, gI_sQ, gI_sL, gI_sD, gR_sI, gR_sA, gR_sQ, gR_sL, gR_sD, gA_sI, gA_sR, gA_sQ, gA_sL, gA_sD, gQ_sI, gQ_sR, gQ_sA, gQ_sL, gQ_sD, gL_sI, gL_sR, gL_sA, gL_sQ, gL_sD]; first | done | assumption | with_reducible rfl) | rfl) (by first | with_reducible rfl | assumption | (simp only [nI_add, pk_mul, nI_1]; with_reducible rfl)) (by first | assumption | omega) (by first | assumption | omega) (by first | assumption | exact gI_sIs | exact gR_sRs | with_reducible rfl | (simp only [kd_sI, kd_sR, kd_sA, kd_sQ, kd_sL, kd_sD, ln_sI, ln_sR, ln_sA, ln_sQ, ln_sL, ln_sD, gI_sR, gI_sA, gI_sQ, gI_sL, gI_sD, gR_sI, gR_sA, gR_sQ, gR_sL, gR_sD, gA_sI, gA_sR, gA_sQ, gA_sL, gA_sD, gQ_sI, gQ_sR, gQ_sA, gQ_sL, gQ_sD, gL_sI, gL_sR, gL_sA, gL_sQ, gL_sD]; first | done | assumption | with_reducible rfl) | rfl) ?_
        refine r_if_eq (tgt := 143) dX3_findsWay_108 (by decide) (fun h108 => ?_) (fun h108 => ?_)
        · have ho : op t0 = false := by
            cases hq : op t0
            · rfl
            · rw [hq] at h108; exact absurd h108 (by decide)
          refine skip ?_
          unfold dfsStep
          cases ed g t0 p with
          | none => rfl
          | some o => dsimp only; rw [ho]; simp
        · have ho : op t0 = true := by
            cases hq : op t0
            · rw [hq] at h108; exact absurd rfl h108
            · rfl
          refine r_aload_n (i := 0) dX3_findsWay_111 rfl rfl ?_
          refine r_iload dX3_findsWay_112 rfl ?_
          refine r_aload_n (i := 3) dX3_findsWay_114 rfl rfl ?_
          refine r_iload dX3_findsWay_115 rfl ?_
          refine r_iald dX3_findsWay_117 (by first | assumption | (simp only [kd_sI, kd_sR, kd_sA, kd_sQ, kd_sL, kd_sD, ln_sI, ln_sR, ln_sA, ln_sQ, ln_sL, ln_sD, gI_sR, gI_sA, gI_sQ, gI_sL, gI_sD, gR_sI, gR_sA, gR_sQ, gR_sL, gR_sD, gA_sI, gA_sR, gA_sQ, gA_sL, gA_sD, gQ_sI, gQ_sR, gQ_sA, gQ_sL, gQ_sD, gL_sI, gL_sR, gL_sA, gL_sQ, gL_sD]; assumption) | simp [kd_sI, kd_sR, kd_sA, kd_sQ, kd_sL, kd_sD, ln_sI, ln_sR, ln_sA, ln_sQ, ln_sL, ln_sD, gI_sR, gI_sA, gI_sQ, gI_sL, gI_sD, gR_sI, gR_sA, gR_sQ, gR_sL, gR_sD, gA_sI, gA_sR, gA_sQ, gA_sL, gA_sD, gQ_sI, gQ_sR, gQ_sA, gQ_sL, gQ_sD, gL_sI, gL_sR, gL_sA, gL_sQ, gL_sD, kd_nO, kd_nA, *]) (by decide) (by first | assumption | exact gI_sIs | exact gR_sRs | with_reducible rfl | (simp only [kd_sI, kd_sR, kd_sA, kd_sQ, kd_sL, kd_sD, ln_sI, ln_sR, ln_sA, ln_sQ, ln_sL, ln_sD, gI_sR, gI_sA, gI_sQ, gI_sL, gI_sD, gR_sI, gR_sA, gR_sQ, gR_sL, gR_sD, gA_sI, gA_sR, gA_sQ, gA_sL, gA_sD, gQ_sI, gQ_sR, gQ_sA, gQ_sL, gQ_sD, gL_sI, gL_sR, gL_sA, gL_sQ, gL_sD]; first | done | assumption | with_reducible rfl) | rfl) (by first | with_reducible rfl | assumption | (simp only [nI_add, pk_mul, nI_1]; with_reducible rfl)) (by first | assumption | omega) (by first | assumption | omega) (by first | assumption | exact gI_sIs | exact gR_sRs | with_reducible rfl | (simp only [kd_sI, kd_sR, kd_sA, kd_sQ, kd_sL, kd_sD, ln_sI, ln_sR, ln_sA, ln_sQ, ln_sL, ln_sD, gI_sR, gI_sA, gI_sQ, gI_sL, gI_sD, gR_sI, gR_sA, gR_sQ, gR_sL, gR_sD, gA_sI, gA_sR, gA_sQ, gA_sL, gA_sD, gQ_sI, gQ_sR, gQ_sA, gQ_sL, gQ_sD, gL_sI, gL_sR, gL_sA, gL_sQ, gL_sD]; first | done | assumption | with_reducible rfl) | rfl) ?_
          refine r_callV (As := [_, _]) (mc' := 0) (ms' := 0) dX3_findsWay_118 k_X3_157 rfl (by first | assumption | (simp only [kd_sI, kd_sR, kd_sA, kd_sQ, kd_sL, kd_sD, ln_sI, ln_sR, ln_sA, ln_sQ, ln_sL, ln_sD, gI_sR, gI_sA, gI_sQ, gI_sL, gI_sD, gR_sI, gR_sA, gR_sQ, gR_sL, gR_sD, gA_sI, gA_sR, gA_sQ, gA_sL, gA_sD, gQ_sI, gQ_sR, gQ_sA, gQ_sL, gQ_sD, gL_sI, gL_sR, gL_sA, gL_sQ, gL_sD]; assumption) | simp [kd_sI, kd_sR, kd_sA, kd_sQ, kd_sL, kd_sD, ln_sI, ln_sR, ln_sA, ln_sQ, ln_sL, ln_sD, gI_sR, gI_sA, gI_sQ, gI_sL, gI_sD, gR_sI, gR_sA, gR_sQ, gR_sL, gR_sD, gA_sI, gA_sR, gA_sQ, gA_sL, gA_sD, gQ_sI, gQ_sR, gQ_sA, gQ_sL, gQ_sD, gL_sI, gL_sR, gL_sA, gL_sQ, gL_sD, kd_nO, kd_nA, *]) (T := TX3) (N := 27) rfl (by first | assumption | omega) (by first | assumption | omega) (by first | assumption | omega) (Nat.le_of_ble_eq_true rfl) ?_
          refine s_isAt (by omega) hM (by omega) ?_
          rw [hgH, q_at_ed hT (by omega) hp]
          cases he : ed g t0 p with
          | none =>
            refine r_if_eq (tgt := 143) dX3_findsWay_121 (by decide) (fun h121 => ?_) (fun h121 => ?_)
            · refine skip ?_
              unfold dfsStep
              rw [he]
            · exact absurd rfl h121
          | some o =>
            obtain ⟨q1, q2, q3⟩ := q_other_ed hT (show t0 < nat g 40 by omega) hp he
            obtain ⟨b1, b2, b3, b4, b5⟩ := bm_all mask hm o q2
            refine r_if_eq (tgt := 143) dX3_findsWay_121 (by decide) (fun h121 => ?_) (fun h121 => ?_)
            · exact absurd h121 (by show ¬ nI 1 = 0; decide)
            · refine r_iload dX3_findsWay_124 rfl ?_
              refine r_aload_n (i := 0) dX3_findsWay_126 rfl rfl ?_
              refine r_iload dX3_findsWay_127 rfl ?_
              refine r_aload_n (i := 3) dX3_findsWay_129 rfl rfl ?_
              refine r_iload dX3_findsWay_130 rfl ?_
              refine r_iald dX3_findsWay_132 (by first | assumption | (simp only [kd_sI, kd_sR, kd_sA, kd_sQ, kd_sL, kd_sD, ln_sI, ln_sR, ln_sA, ln_sQ, ln_sL, ln_sD, gI_sR, gI_sA, gI_sQ, gI_sL, gI_sD, gR_sI, gR_sA, gR_sQ, gR_sL, gR_sD, gA_sI, gA_sR, gA_sQ, gA_sL, gA_sD, gQ_sI, gQ_sR, gQ_sA, gQ_sL, gQ_sD, gL_sI, gL_sR, gL_sA, gL_sQ, gL_sD]; assumption) | simp [kd_sI, kd_sR, kd_sA, kd_sQ, kd_sL, kd_sD, ln_sI, ln_sR, ln_sA, ln_sQ, ln_sL, ln_sD, gI_sR, gI_sA, gI_sQ, gI_sL, gI_sD, gR_sI, gR_sA, gR_sQ, gR_sL, gR_sD, gA_sI, gA_sR, gA_sQ, gA_sL, gA_sD, gQ_sI, gQ_sR, gQ_sA, gQ_sL, gQ_sD, gL_sI, gL_sR, gL_sA, gL_sQ, gL_sD, kd_nO, kd_nA, *]) (by decide) (by first | assumption | exact gI_sIs | exact gR_sRs | with_reducible rfl | (simp only [kd_sI, kd_sR, kd_sA, kd_sQ, kd_sL, kd_sD, ln_sI, ln_sR, ln_sA, ln_sQ, ln_sL, ln_sD, gI_sR, gI_sA, gI_sQ, gI_sL, gI_sD, gR_sI, gR_sA, gR_sQ, gR_sL, gR_sD, gA_sI, gA_sR, gA_sQ, gA_sL, gA_sD, gQ_sI, gQ_sR, gQ_sA, gQ_sL, gQ_sD, gL_sI, gL_sR, gL_sA, gL_sQ, gL_sD]; first | done | assumption | with_reducible rfl) | rfl) (by first | with_reducible rfl | assumption | (simp only [nI_add, pk_mul, nI_1]; with_reducible rfl)) (by first | assumption | omega) (by first | assumption | omega) (by first | assumption | exact gI_sIs | exact gR_sRs | with_reducible rfl | (simp only [kd_sI, kd_sR, kd_sA, kd_sQ, kd_sL, kd_sD, ln_sI, ln_sR, ln_sA, ln_sQ, ln_sL, ln_sD, gI_sR, gI_sA, gI_sQ, gI_sL, gI_sD, gR_sI, gR_sA, gR_sQ, gR_sL, gR_sD, gA_sI, gA_sR, gA_sQ, gA_sL, gA_sD, gQ_sI, gQ_sR, gQ_sA, gQ_sL, gQ_sD, gL_sI, gL_sR, gL_sA, gL_sQ, gL_sD]; first | done | assumption | with_reducible rfl) | rfl) ?_
              refine r_callV (As := [_, _]) (mc' := 0) (ms' := 0) dX3_findsWay_133 k_X3_161 rfl (by first | assumption | (simp only [kd_sI, kd_sR, kd_sA, kd_sQ, kd_sL, kd_sD, ln_sI, ln_sR, ln_sA, ln_sQ, ln_sL, ln_sD, gI_sR, gI_sA, gI_sQ, gI_sL, gI_sD, gR_sI, gR_sA, gR_sQ, gR_sL, gR_sD, gA_sI, gA_sR, gA_sQ, gA_sL, gA_sD, gQ_sI, gQ_sR, gQ_sA, gQ_sL, gQ_sD, gL_sI, gL_sR, gL_sA, gL_sQ, gL_sD]; assumption) | simp [kd_sI, kd_sR, kd_sA, kd_sQ, kd_sL, kd_sD, ln_sI, ln_sR, ln_sA, ln_sQ, ln_sL, ln_sD, gI_sR, gI_sA, gI_sQ, gI_sL, gI_sD, gR_sI, gR_sA, gR_sQ, gR_sL, gR_sD, gA_sI, gA_sR, gA_sQ, gA_sL, gA_sD, gQ_sI, gQ_sR, gQ_sA, gQ_sL, gQ_sD, gL_sI, gL_sR, gL_sA, gL_sQ, gL_sD, kd_nO, kd_nA, *]) (T := TX3) (N := 27) rfl (by first | assumption | omega) (by first | assumption | omega) (by first | assumption | omega) (Nat.le_of_ble_eq_true rfl) ?_
              refine s_other (by omega) hM (by omega) ?_
              rw [hgH, q1]
              refine r_ishr dX3_findsWay_136 ?_
              refine r_iconst (v := nI 1) dX3_findsWay_137 (by decide) ?_
              refine r_iand dX3_findsWay_138 ?_
              rw [b1]
              have found : mask.testBit o = false → AW mX3_findsWay G d Qr Qx 0 0 H 149 [some (vR (some m)), some (vI (nI fr)), some (vI (nI to)), some (vR (some (ma 83))), some (vI (nI deep)), some (vI (nI mask)), some (vI s), x7, some (vI (nI t0)), x9] [] := by
                intro hv
                obtain ⟨b6, b7⟩ := b3 hv
                have hlen : (row ++ [t0]).length = deep + 1 := by rw [List.length_append, hrow]; rfl
                have hgd : ∀ i, i < deep → (row ++ [t0]).getD i 0 = row.getD i 0 := by
                  intro i hi
                  rw [List.getD_eq_getElem?_getD, List.getD_eq_getElem?_getD, List.getElem?_append_left (by omega)]
                have hgl : (row ++ [t0]).getD deep 0 = t0 := by
                  rw [List.getD_eq_getElem?_getD, List.getElem?_append_right (by omega), hrow, Nat.sub_self]; rfl
                have undo : ∀ (b' : Best) (H' : AH) (y7 y8 y9 : Option AV), MU m ma [79, 80, 81, 82, 83] H0 H' → (∀ i, i ≤ deep → gA H' 1083 (ma 83) i = gA H 1083 (ma 83) i) → gA H' 1083 (ma 83) (deep + 1) = nI o → (∀ i, i < deep → gA H' 1079 (ma 79) i = nI (row.getD i 0)) → gA H' 1079 (ma 79) deep = nI t0 → BRep H' m ma b' → dfsStep (dfs g op to f) g op to p mask row s t0 b = b' →
                    AW mX3_findsWay G d Qr Qx 0 0 H' 37 [some (vR (some m)), some (vI (nI fr)), some (vI (nI to)), some (vR (some (ma 83))), some (vI (nI deep)), some (vI (nI (mask ||| 2 ^ o))), some (vI (s + g (43 + 5 * t0))), y7, y8, y9] [] := by
                  intro b' H' y7 y8 y9 u1 u2 u3 u4 u5 u6 u7
                  have hM' := hM0.mf u1.1
                  have e0' := hM'.1
                  obtain ⟨e68a', e68b', e68c'⟩ : gR H' 68 m = some (ma 68) ∧ kd H' (ma 68) = 1068 ∧ ln H' (ma 68) = 385 := hM'.2 68 (by decide)
                  obtain ⟨e79a', e79b', e79c'⟩ : gR H' 79 m = some (ma 79) ∧ kd H' (ma 79) = 1079 ∧ ln H' (ma 79) = 8 := hM'.2 79 (by decide)
                  obtain ⟨e83a', e83b', e83c'⟩ : gR H' 83 m = some (ma 83) ∧ kd H' (ma 83) = 1083 ∧ ln H' (ma 83) = 9 := hM'.2 83 (by decide)
                  have hgH' : gA H' 1068 (ma 68) = g := by rw [u1.g68 (by decide)]; exact hg
                  refine r_iload dX3_findsWay_37 rfl ?_
                  refine r_if_lt (tgt := 324) dX3_findsWay_39 (by decide) (fun h39 => ?_) (fun h39 => ?_)
                  · exact absurd h39 (nI_lt0 (by omega))
                  · refine r_aload_n (i := 0) dX3_findsWay_42 rfl rfl ?_
                    refine r_getR dX3_findsWay_43 fR_X3_29 (by first | assumption | (simp only [kd_sI, kd_sR, kd_sA, kd_sQ, kd_sL, kd_sD, ln_sI, ln_sR, ln_sA, ln_sQ, ln_sL, ln_sD, gI_sR, gI_sA, gI_sQ, gI_sL, gI_sD, gR_sI, gR_sA, gR_sQ, gR_sL, gR_sD, gA_sI, gA_sR, gA_sQ, gA_sL, gA_sD, gQ_sI, gQ_sR, gQ_sA, gQ_sL, gQ_sD, gL_sI, gL_sR, gL_sA, gL_sQ, gL_sD]; assumption) | simp [kd_sI, kd_sR, kd_sA, kd_sQ, kd_sL, kd_sD, ln_sI, ln_sR, ln_sA, ln_sQ, ln_sL, ln_sD, gI_sR, gI_sA, gI_sQ, gI_sL, gI_sD, gR_sI, gR_sA, gR_sQ, gR_sL, gR_sD, gA_sI, gA_sR, gA_sQ, gA_sL, gA_sD, gQ_sI, gQ_sR, gQ_sA, gQ_sL, gQ_sD, gL_sI, gL_sR, gL_sA, gL_sQ, gL_sD, kd_nO, kd_nA, *]) (by first | assumption | exact gI_sIs | exact gR_sRs | with_reducible rfl | (simp only [kd_sI, kd_sR, kd_sA, kd_sQ, kd_sL, kd_sD, ln_sI, ln_sR, ln_sA, ln_sQ, ln_sL, ln_sD, gI_sR, gI_sA, gI_sQ, gI_sL, gI_sD, gR_sI, gR_sA, gR_sQ, gR_sL, gR_sD, gA_sI, gA_sR, gA_sQ, gA_sL, gA_sD, gQ_sI, gQ_sR, gQ_sA, gQ_sL, gQ_sD, gL_sI, gL_sR, gL_sA, gL_sQ, gL_sD]; first | done | assumption | with_reducible rfl) | rfl) ?_
                    refine r_iload dX3_findsWay_46 rfl ?_
                    refine r_iald dX3_findsWay_48 (by first | assumption | (simp only [kd_sI, kd_sR, kd_sA, kd_sQ, kd_sL, kd_sD, ln_sI, ln_sR, ln_sA, ln_sQ, ln_sL, ln_sD, gI_sR, gI_sA, gI_sQ, gI_sL, gI_sD, gR_sI, gR_sA, gR_sQ, gR_sL, gR_sD, gA_sI, gA_sR, gA_sQ, gA_sL, gA_sD, gQ_sI, gQ_sR, gQ_sA, gQ_sL, gQ_sD, gL_sI, gL_sR, gL_sA, gL_sQ, gL_sD]; assumption) | simp [kd_sI, kd_sR, kd_sA, kd_sQ, kd_sL, kd_sD, ln_sI, ln_sR, ln_sA, ln_sQ, ln_sL, ln_sD, gI_sR, gI_sA, gI_sQ, gI_sL, gI_sD, gR_sI, gR_sA, gR_sQ, gR_sL, gR_sD, gA_sI, gA_sR, gA_sQ, gA_sL, gA_sD, gQ_sI, gQ_sR, gQ_sA, gQ_sL, gQ_sD, gL_sI, gL_sR, gL_sA, gL_sQ, gL_sD, kd_nO, kd_nA, *]) (by decide) (by first | assumption | exact gI_sIs | exact gR_sRs | with_reducible rfl | (simp only [kd_sI, kd_sR, kd_sA, kd_sQ, kd_sL, kd_sD, ln_sI, ln_sR, ln_sA, ln_sQ, ln_sL, ln_sD, gI_sR, gI_sA, gI_sQ, gI_sL, gI_sD, gR_sI, gR_sA, gR_sQ, gR_sL, gR_sD, gA_sI, gA_sR, gA_sQ, gA_sL, gA_sD, gQ_sI, gQ_sR, gQ_sA, gQ_sL, gQ_sD, gL_sI, gL_sR, gL_sA, gL_sQ, gL_sD]; first | done | assumption | with_reducible rfl) | rfl) (by first | with_reducible rfl | assumption | (simp only [nI_add, pk_mul, nI_1]; with_reducible rfl)) (by first | assumption | omega) (by first | assumption | omega) (by first | assumption | exact gI_sIs | exact gR_sRs | with_reducible rfl | (simp only [kd_sI, kd_sR, kd_sA, kd_sQ, kd_sL, kd_sD, ln_sI, ln_sR, ln_sA, ln_sQ, ln_sL, ln_sD, gI_sR, gI_sA, gI_sQ, gI_sL, gI_sD, gR_sI, gR_sA, gR_sQ, gR_sL, gR_sD, gA_sI, gA_sR, gA_sQ, gA_sL, gA_sD, gQ_sI, gQ_sR, gQ_sA, gQ_sL, gQ_sD, gL_sI, gL_sR, gL_sA, gL_sQ, gL_sD]; first | done | assumption | with_reducible rfl) | rfl) ?_
                    refine r_istore dX3_findsWay_49 (Nat.le_of_ble_eq_true rfl) (by simp only [lset]; rfl) ?_
                    refine r_iload dX3_findsWay_51 rfl ?_
                    refine r_if_lt (tgt := 83) dX3_findsWay_53 (by decide) (fun h53 => ?_) (fun h53 => ?_)
                    · exact absurd h53 (nI_lt0 (by omega))
                    · refine r_iload dX3_findsWay_56 rfl ?_
                      refine r_aload_n (i := 0) dX3_findsWay_58 rfl rfl ?_
                      refine r_iload dX3_findsWay_59 rfl ?_
                      refine r_iconst (v := nI 2) dX3_findsWay_61 (by decide) ?_
                      refine r_callV (As := [_, _]) (mc' := 0) (ms' := 0) dX3_findsWay_62 k_X3_121 rfl (by first | assumption | (simp only [kd_sI, kd_sR, kd_sA, kd_sQ, kd_sL, kd_sD, ln_sI, ln_sR, ln_sA, ln_sQ, ln_sL, ln_sD, gI_sR, gI_sA, gI_sQ, gI_sL, gI_sD, gR_sI, gR_sA, gR_sQ, gR_sL, gR_sD, gA_sI, gA_sR, gA_sQ, gA_sL, gA_sD, gQ_sI, gQ_sR, gQ_sA, gQ_sL, gQ_sD, gL_sI, gL_sR, gL_sA, gL_sQ, gL_sD]; assumption) | simp [kd_sI, kd_sR, kd_sA, kd_sQ, kd_sL, kd_sD, ln_sI, ln_sR, ln_sA, ln_sQ, ln_sL, ln_sD, gI_sR, gI_sA, gI_sQ, gI_sL, gI_sD, gR_sI, gR_sA, gR_sQ, gR_sL, gR_sD, gA_sI, gA_sR, gA_sQ, gA_sL, gA_sD, gQ_sI, gQ_sR, gQ_sA, gQ_sL, gQ_sD, gL_sI, gL_sR, gL_sA, gL_sQ, gL_sD, kd_nO, kd_nA, *]) (T := TX3) (N := 27) rfl (by first | assumption | omega) (by first | assumption | omega) (by first | assumption | omega) (Nat.le_of_ble_eq_true rfl) ?_
                      refine s_trayTold hM' (by omega) ?_
                      rw [hgH', show 41 + 5 * t0 + 2 = 43 + 5 * t0 by omega]
                      refine r_isub dX3_findsWay_65 ?_
                      refine r_istore dX3_findsWay_66 (Nat.le_of_ble_eq_true rfl) (by simp only [lset]; rfl) ?_
                      refine r_iload dX3_findsWay_68 rfl ?_
                      refine r_iconst (v := nI 1) dX3_findsWay_70 (by decide) ?_
                      refine r_aload_n (i := 3) dX3_findsWay_71 rfl rfl ?_
                      refine r_iload dX3_findsWay_72 rfl ?_
                      refine r_iconst (v := nI 1) dX3_findsWay_74 (by decide) ?_
                      refine r_iadd dX3_findsWay_75 ?_
                      refine r_iald dX3_findsWay_76 (by first | assumption | (simp only [kd_sI, kd_sR, kd_sA, kd_sQ, kd_sL, kd_sD, ln_sI, ln_sR, ln_sA, ln_sQ, ln_sL, ln_sD, gI_sR, gI_sA, gI_sQ, gI_sL, gI_sD, gR_sI, gR_sA, gR_sQ, gR_sL, gR_sD, gA_sI, gA_sR, gA_sQ, gA_sL, gA_sD, gQ_sI, gQ_sR, gQ_sA, gQ_sL, gQ_sD, gL_sI, gL_sR, gL_sA, gL_sQ, gL_sD]; assumption) | simp [kd_sI, kd_sR, kd_sA, kd_sQ, kd_sL, kd_sD, ln_sI, ln_sR, ln_sA, ln_sQ, ln_sL, ln_sD, gI_sR, gI_sA, gI_sQ, gI_sL, gI_sD, gR_sI, gR_sA, gR_sQ, gR_sL, gR_sD, gA_sI, gA_sR, gA_sQ, gA_sL, gA_sD, gQ_sI, gQ_sR, gQ_sA, gQ_sL, gQ_sD, gL_sI, gL_sR, gL_sA, gL_sQ, gL_sD, kd_nO, kd_nA, *]) (by decide) (by first | assumption | exact gI_sIs | exact gR_sRs | with_reducible rfl | (simp only [kd_sI, kd_sR, kd_sA, kd_sQ, kd_sL, kd_sD, ln_sI, ln_sR, ln_sA, ln_sQ, ln_sL, ln_sD, gI_sR, gI_sA, gI_sQ, gI_sL, gI_sD, gR_sI, gR_sA, gR_sQ, gR_sL, gR_sD, gA_sI, gA_sR, gA_sQ, gA_sL, gA_sD, gQ_sI, gQ_sR, gQ_sA, gQ_sL, gQ_sD, gL_sI, gL_sR, gL_sA, gL_sQ, gL_sD]; first | done | assumption | with_reducible rfl) | rfl) (by first | with_reducible rfl | assumption | (simp only [nI_add, pk_mul, nI_1]; with_reducible rfl)) (by first | assumption | omega) (by first | assumption | omega) (by first | assumption | exact gI_sIs | exact gR_sRs | with_reducible rfl | (simp only [kd_sI, kd_sR, kd_sA, kd_sQ, kd_sL, kd_sD, ln_sI, ln_sR, ln_sA, ln_sQ, ln_sL, ln_sD, gI_sR, gI_sA, gI_sQ, gI_sL, gI_sD, gR_sI, gR_sA, gR_sQ, gR_sL, gR_sD, gA_sI, gA_sR, gA_sQ, gA_sL, gA_sD, gQ_sI, gQ_sR, gQ_sA, gQ_sL, gQ_sD, gL_sI, gL_sR, gL_sA, gL_sQ, gL_sD]; first | done | assumption | with_reducible rfl) | rfl) ?_
                      refine r_ishl dX3_findsWay_77 ?_
                      refine r_iconst (v := -1) dX3_findsWay_78 (by decide) ?_
                      refine r_ixor dX3_findsWay_79 ?_
                      refine r_iand dX3_findsWay_80 ?_
                      refine r_istore dX3_findsWay_81 (Nat.le_of_ble_eq_true rfl) (by simp only [lset]; rfl) ?_
                      refine r_iload dX3_findsWay_83 rfl ?_
                      refine r_iconst (v := nI 1) dX3_findsWay_85 (by decide) ?_
                      refine r_iadd dX3_findsWay_86 ?_
                      refine r_istore dX3_findsWay_87 (Nat.le_of_ble_eq_true rfl) (by simp only [lset]; rfl) ?_
                      rw [show s + g (43 + 5 * t0) - g (43 + 5 * t0) = s by rw [Int32.add_sub_cancel]]
                      rw [b6, nI_add]
                      rw [show f + 1 - 1 = f by omega, u7] at K
                      exact ihn (t0 + 1) b' H' _ _ (by omega) u1 (by rw [u2 deep (Nat.le_refl _)]; exact hat) u4 u6 (fun H'' z7 z8 z9 w1 w2 w3 w4 => K H'' z7 z8 z9 w1 (fun i hi => (w2 i hi).trans (u2 i hi)) w3 w4)
                refine r_iload dX3_findsWay_149 rfl ?_
                refine r_aload_n (i := 0) dX3_findsWay_151 rfl rfl ?_
                refine r_getR dX3_findsWay_152 fR_X3_7 (by first | assumption | (simp only [kd_sI, kd_sR, kd_sA, kd_sQ, kd_sL, kd_sD, ln_sI, ln_sR, ln_sA, ln_sQ, ln_sL, ln_sD, gI_sR, gI_sA, gI_sQ, gI_sL, gI_sD, gR_sI, gR_sA, gR_sQ, gR_sL, gR_sD, gA_sI, gA_sR, gA_sQ, gA_sL, gA_sD, gQ_sI, gQ_sR, gQ_sA, gQ_sL, gQ_sD, gL_sI, gL_sR, gL_sA, gL_sQ, gL_sD]; assumption) | simp [kd_sI, kd_sR, kd_sA, kd_sQ, kd_sL, kd_sD, ln_sI, ln_sR, ln_sA, ln_sQ, ln_sL, ln_sD, gI_sR, gI_sA, gI_sQ, gI_sL, gI_sD, gR_sI, gR_sA, gR_sQ, gR_sL, gR_sD, gA_sI, gA_sR, gA_sQ, gA_sL, gA_sD, gQ_sI, gQ_sR, gQ_sA, gQ_sL, gQ_sD, gL_sI, gL_sR, gL_sA, gL_sQ, gL_sD, kd_nO, kd_nA, *]) (by first | assumption | exact gI_sIs | exact gR_sRs | with_reducible rfl | (simp only [kd_sI, kd_sR, kd_sA, kd_sQ, kd_sL, kd_sD, ln_sI, ln_sR, ln_sA, ln_sQ, ln_sL, ln_sD, gI_sR, gI_sA, gI_sQ, gI_sL, gI_sD, gR_sI, gR_sA, gR_sQ, gR_sL, gR_sD, gA_sI, gA_sR, gA_sQ, gA_sL, gA_sD, gQ_sI, gQ_sR, gQ_sA, gQ_sL, gQ_sD, gL_sI, gL_sR, gL_sA, gL_sQ, gL_sD]; first | done | assumption | with_reducible rfl) | rfl) ?_
                refine r_bipush (v := nI 40) dX3_findsWay_155 (by decide) ?_
                refine r_iald dX3_findsWay_157 (by first | assumption | (simp only [kd_sI, kd_sR, kd_sA, kd_sQ, kd_sL, kd_sD, ln_sI, ln_sR, ln_sA, ln_sQ, ln_sL, ln_sD, gI_sR, gI_sA, gI_sQ, gI_sL, gI_sD, gR_sI, gR_sA, gR_sQ, gR_sL, gR_sD, gA_sI, gA_sR, gA_sQ, gA_sL, gA_sD, gQ_sI, gQ_sR, gQ_sA, gQ_sL, gQ_sD, gL_sI, gL_sR, gL_sA, gL_sQ, gL_sD]; assumption) | simp [kd_sI, kd_sR, kd_sA, kd_sQ, kd_sL, kd_sD, ln_sI, ln_sR, ln_sA, ln_sQ, ln_sL, ln_sD, gI_sR, gI_sA, gI_sQ, gI_sL, gI_sD, gR_sI, gR_sA, gR_sQ, gR_sL, gR_sD, gA_sI, gA_sR, gA_sQ, gA_sL, gA_sD, gQ_sI, gQ_sR, gQ_sA, gQ_sL, gQ_sD, gL_sI, gL_sR, gL_sA, gL_sQ, gL_sD, kd_nO, kd_nA, *]) (by decide) (by first | assumption | exact gI_sIs | exact gR_sRs | with_reducible rfl | (simp only [kd_sI, kd_sR, kd_sA, kd_sQ, kd_sL, kd_sD, ln_sI, ln_sR, ln_sA, ln_sQ, ln_sL, ln_sD, gI_sR, gI_sA, gI_sQ, gI_sL, gI_sD, gR_sI, gR_sA, gR_sQ, gR_sL, gR_sD, gA_sI, gA_sR, gA_sQ, gA_sL, gA_sD, gQ_sI, gQ_sR, gQ_sA, gQ_sL, gQ_sD, gL_sI, gL_sR, gL_sA, gL_sQ, gL_sD]; first | done | assumption | with_reducible rfl) | rfl) (by first | with_reducible rfl | assumption | (simp only [nI_add, pk_mul, nI_1]; with_reducible rfl)) (by first | assumption | omega) (by first | assumption | omega) (by first | assumption | exact gI_sIs | exact gR_sRs | with_reducible rfl | (simp only [kd_sI, kd_sR, kd_sA, kd_sQ, kd_sL, kd_sD, ln_sI, ln_sR, ln_sA, ln_sQ, ln_sL, ln_sD, gI_sR, gI_sA, gI_sQ, gI_sL, gI_sD, gR_sI, gR_sA, gR_sQ, gR_sL, gR_sD, gA_sI, gA_sR, gA_sQ, gA_sL, gA_sD, gQ_sI, gQ_sR, gQ_sA, gQ_sL, gQ_sD, gL_sI, gL_sR, gL_sA, gL_sQ, gL_sD]; first | done | assumption | with_reducible rfl) | rfl) ?_
                refine r_icmp_ne (tgt := 167) dX3_findsWay_158 (by decide) (fun h158 => ?_) (fun h158 => ?_)
                · refine r_aload_n (i := 0) dX3_findsWay_167 rfl rfl ?_
                  refine r_getR dX3_findsWay_168 fR_X3_29 (by first | assumption | (simp only [kd_sI, kd_sR, kd_sA, kd_sQ, kd_sL, kd_sD, ln_sI, ln_sR, ln_sA, ln_sQ, ln_sL, ln_sD, gI_sR, gI_sA, gI_sQ, gI_sL, gI_sD, gR_sI, gR_sA, gR_sQ, gR_sL, gR_sD, gA_sI, gA_sR, gA_sQ, gA_sL, gA_sD, gQ_sI, gQ_sR, gQ_sA, gQ_sL, gQ_sD, gL_sI, gL_sR, gL_sA, gL_sQ, gL_sD]; assumption) | simp [kd_sI, kd_sR, kd_sA, kd_sQ, kd_sL, kd_sD, ln_sI, ln_sR, ln_sA, ln_sQ, ln_sL, ln_sD, gI_sR, gI_sA, gI_sQ, gI_sL, gI_sD, gR_sI, gR_sA, gR_sQ, gR_sL, gR_sD, gA_sI, gA_sR, gA_sQ, gA_sL, gA_sD, gQ_sI, gQ_sR, gQ_sA, gQ_sL, gQ_sD, gL_sI, gL_sR, gL_sA, gL_sQ, gL_sD, kd_nO, kd_nA, *]) (by first | assumption | exact gI_sIs | exact gR_sRs | with_reducible rfl | (simp only [kd_sI, kd_sR, kd_sA, kd_sQ, kd_sL, kd_sD, ln_sI, ln_sR, ln_sA, ln_sQ, ln_sL, ln_sD, gI_sR, gI_sA, gI_sQ, gI_sL, gI_sD, gR_sI, gR_sA, gR_sQ, gR_sL, gR_sD, gA_sI, gA_sR, gA_sQ, gA_sL, gA_sD, gQ_sI, gQ_sR, gQ_sA, gQ_sL, gQ_sD, gL_sI, gL_sR, gL_sA, gL_sQ, gL_sD]; first | done | assumption | with_reducible rfl) | rfl) ?_
                  refine r_iload dX3_findsWay_171 rfl ?_
                  refine r_iload dX3_findsWay_173 rfl ?_
                  refine r_iast dX3_findsWay_175 (by first | assumption | (simp only [kd_sI, kd_sR, kd_sA, kd_sQ, kd_sL, kd_sD, ln_sI, ln_sR, ln_sA, ln_sQ, ln_sL, ln_sD, gI_sR, gI_sA, gI_sQ, gI_sL, gI_sD, gR_sI, gR_sA, gR_sQ, gR_sL, gR_sD, gA_sI, gA_sR, gA_sQ, gA_sL, gA_sD, gQ_sI, gQ_sR, gQ_sA, gQ_sL, gQ_sD, gL_sI, gL_sR, gL_sA, gL_sQ, gL_sD]; assumption) | simp [kd_sI, kd_sR, kd_sA, kd_sQ, kd_sL, kd_sD, ln_sI, ln_sR, ln_sA, ln_sQ, ln_sL, ln_sD, gI_sR, gI_sA, gI_sQ, gI_sL, gI_sD, gR_sI, gR_sA, gR_sQ, gR_sL, gR_sD, gA_sI, gA_sR, gA_sQ, gA_sL, gA_sD, gQ_sI, gQ_sR, gQ_sA, gQ_sL, gQ_sD, gL_sI, gL_sR, gL_sA, gL_sQ, gL_sD, kd_nO, kd_nA, *]) (by decide) (by first | assumption | exact gI_sIs | exact gR_sRs | with_reducible rfl | (simp only [kd_sI, kd_sR, kd_sA, kd_sQ, kd_sL, kd_sD, ln_sI, ln_sR, ln_sA, ln_sQ, ln_sL, ln_sD, gI_sR, gI_sA, gI_sQ, gI_sL, gI_sD, gR_sI, gR_sA, gR_sQ, gR_sL, gR_sD, gA_sI, gA_sR, gA_sQ, gA_sL, gA_sD, gQ_sI, gQ_sR, gQ_sA, gQ_sL, gQ_sD, gL_sI, gL_sR, gL_sA, gL_sQ, gL_sD]; first | done | assumption | with_reducible rfl) | rfl) (by first | with_reducible rfl | assumption | (simp only [nI_add, pk_mul, nI_1]; with_reducible rfl)) (by first | assumption | omega) (by first | assumption | omega) ?_
                  refine r_aload_n (i := 3) dX3_findsWay_176 rfl rfl ?_
                  refine r_iload dX3_findsWay_177 rfl ?_
                  refine r_iconst (v := nI 1) dX3_findsWay_179 (by decide) ?_
                  refine r_iadd dX3_findsWay_180 ?_
                  refine r_aload_n (i := 0) dX3_findsWay_181 rfl rfl ?_
                  refine r_iload dX3_findsWay_182 rfl ?_
                  refine r_aload_n (i := 3) dX3_findsWay_184 rfl rfl ?_
                  refine r_iload dX3_findsWay_185 rfl ?_
                  refine r_iald dX3_findsWay_187 (by first | assumption | (simp only [kd_sI, kd_sR, kd_sA, kd_sQ, kd_sL, kd_sD, ln_sI, ln_sR, ln_sA, ln_sQ, ln_sL, ln_sD, gI_sR, gI_sA, gI_sQ, gI_sL, gI_sD, gR_sI, gR_sA, gR_sQ, gR_sL, gR_sD, gA_sI, gA_sR, gA_sQ, gA_sL, gA_sD, gQ_sI, gQ_sR, gQ_sA, gQ_sL, gQ_sD, gL_sI, gL_sR, gL_sA, gL_sQ, gL_sD]; assumption) | simp [kd_sI, kd_sR, kd_sA, kd_sQ, kd_sL, kd_sD, ln_sI, ln_sR, ln_sA, ln_sQ, ln_sL, ln_sD, gI_sR, gI_sA, gI_sQ, gI_sL, gI_sD, gR_sI, gR_sA, gR_sQ, gR_sL, gR_sD, gA_sI, gA_sR, gA_sQ, gA_sL, gA_sD, gQ_sI, gQ_sR, gQ_sA, gQ_sL, gQ_sD, gL_sI, gL_sR, gL_sA, gL_sQ, gL_sD, kd_nO, kd_nA, *]) (by decide) (by first | assumption | exact gI_sIs | exact gR_sRs | with_reducible rfl | (simp only [kd_sI, kd_sR, kd_sA, kd_sQ, kd_sL, kd_sD, ln_sI, ln_sR, ln_sA, ln_sQ, ln_sL, ln_sD, gI_sR, gI_sA, gI_sQ, gI_sL, gI_sD, gR_sI, gR_sA, gR_sQ, gR_sL, gR_sD, gA_sI, gA_sR, gA_sQ, gA_sL, gA_sD, gQ_sI, gQ_sR, gQ_sA, gQ_sL, gQ_sD, gL_sI, gL_sR, gL_sA, gL_sQ, gL_sD]; first | done | assumption | with_reducible rfl) | rfl) (by first | with_reducible rfl | assumption | (simp only [nI_add, pk_mul, nI_1]; with_reducible rfl)) (by first | assumption | omega) (by first | assumption | omega) (by first | assumption | exact gI_sIs | exact gR_sRs | with_reducible rfl | (simp only [kd_sI, kd_sR, kd_sA, kd_sQ, kd_sL, kd_sD, ln_sI, ln_sR, ln_sA, ln_sQ, ln_sL, ln_sD, gI_sR, gI_sA, gI_sQ, gI_sL, gI_sD, gR_sI, gR_sA, gR_sQ, gR_sL, gR_sD, gA_sI, gA_sR, gA_sQ, gA_sL, gA_sD, gQ_sI, gQ_sR, gQ_sA, gQ_sL, gQ_sD, gL_sI, gL_sR, gL_sA, gL_sQ, gL_sD]; first | done | assumption | with_reducible rfl) | rfl) ?_
                  have hU1 : MU m ma [79, 80, 81, 82, 83] H0 (sA H 1079 (ma 79) (upd (gA H 1079 (ma 79)) deep (nI t0))) := hU.sA (f := 79) (Or.inl (by decide)) (by decide) (by decide)
                  refine r_callV (As := [_, _]) (mc' := 0) (ms' := 0) dX3_findsWay_188 k_X3_161 rfl (by first | assumption | (simp only [kd_sI, kd_sR, kd_sA, kd_sQ, kd_sL, kd_sD, ln_sI, ln_sR, ln_sA, ln_sQ, ln_sL, ln_sD, gI_sR, gI_sA, gI_sQ, gI_sL, gI_sD, gR_sI, gR_sA, gR_sQ, gR_sL, gR_sD, gA_sI, gA_sR, gA_sQ, gA_sL, gA_sD, gQ_sI, gQ_sR, gQ_sA, gQ_sL, gQ_sD, gL_sI, gL_sR, gL_sA, gL_sQ, gL_sD]; assumption) | simp [kd_sI, kd_sR, kd_sA, kd_sQ, kd_sL, kd_sD, ln_sI, ln_sR, ln_sA, ln_sQ, ln_sL, ln_sD, gI_sR, gI_sA, gI_sQ, gI_sL, gI_sD, gR_sI, gR_sA, gR_sQ, gR_sL, gR_sD, gA_sI, gA_sR, gA_sQ, gA_sL, gA_sD, gQ_sI, gQ_sR, gQ_sA, gQ_sL, gQ_sD, gL_sI, gL_sR, gL_sA, gL_sQ, gL_sD, kd_nO, kd_nA, *]) (T := TX3) (N := 27) rfl (by first | assumption | omega) (by first | assumption | omega) (by first | assumption | omega) (Nat.le_of_ble_eq_true rfl) ?_
                  refine s_other (by omega) (hM0.mf hU1.1) (by omega) ?_
                  rw [show gA (sA H 1079 (ma 79) (upd (gA H 1079 (ma 79)) deep (nI t0))) 1068 (ma 68) = g from hgH, q1]
                  refine r_iast dX3_findsWay_191 (by first | assumption | (simp only [kd_sI, kd_sR, kd_sA, kd_sQ, kd_sL, kd_sD, ln_sI, ln_sR, ln_sA, ln_sQ, ln_sL, ln_sD, gI_sR, gI_sA, gI_sQ, gI_sL, gI_sD, gR_sI, gR_sA, gR_sQ, gR_sL, gR_sD, gA_sI, gA_sR, gA_sQ, gA_sL, gA_sD, gQ_sI, gQ_sR, gQ_sA, gQ_sL, gQ_sD, gL_sI, gL_sR, gL_sA, gL_sQ, gL_sD]; assumption) | simp [kd_sI, kd_sR, kd_sA, kd_sQ, kd_sL, kd_sD, ln_sI, ln_sR, ln_sA, ln_sQ, ln_sL, ln_sD, gI_sR, gI_sA, gI_sQ, gI_sL, gI_sD, gR_sI, gR_sA, gR_sQ, gR_sL, gR_sD, gA_sI, gA_sR, gA_sQ, gA_sL, gA_sD, gQ_sI, gQ_sR, gQ_sA, gQ_sL, gQ_sD, gL_sI, gL_sR, gL_sA, gL_sQ, gL_sD, kd_nO, kd_nA, *]) (by decide) (by first | assumption | exact gI_sIs | exact gR_sRs | with_reducible rfl | (simp only [kd_sI, kd_sR, kd_sA, kd_sQ, kd_sL, kd_sD, ln_sI, ln_sR, ln_sA, ln_sQ, ln_sL, ln_sD, gI_sR, gI_sA, gI_sQ, gI_sL, gI_sD, gR_sI, gR_sA, gR_sQ, gR_sL, gR_sD, gA_sI, gA_sR, gA_sQ, gA_sL, gA_sD, gQ_sI, gQ_sR, gQ_sA, gQ_sL, gQ_sD, gL_sI, gL_sR, gL_sA, gL_sQ, gL_sD]; first | done | assumption | with_reducible rfl) | rfl) (by first | with_reducible rfl | assumption | (simp only [nI_add, pk_mul, nI_1]; with_reducible rfl)) (by first | assumption | omega) (by first | assumption | omega) ?_
                  refine AW.name (fun H2 hH2 => ?_)
                  have hU2 : MU m ma [79, 80, 81, 82, 83] H0 H2 := by rw [hH2]; exact hU1.sA (f := 83) (Or.inl (by decide)) (by decide) (by decide)
                  have c83 : gA H2 1083 (ma 83) = upd (gA H 1083 (ma 83)) (deep + 1) (nI o) := by rw [hH2]; exact gA_sAs
                  have c79 : gA H2 1079 (ma 79) = upd (gA H 1079 (ma 79)) deep (nI t0) := by rw [hH2]; exact gA_sAs
                  have c80 : gA H2 1080 = gA H 1080 := by rw [hH2]; rfl
                  have cI : gI H2 = gI H := by rw [hH2]; rfl
                  have cat : gA H2 1083 (ma 83) (deep + 1) = nI o := by rw [c83]; exact pk_us
                  have hM2 := hM0.mf hU2.1
                  have e02 := hM2.1
                  obtain ⟨e68a_2, e68b_2, e68c_2⟩ : gR H2 68 m = some (ma 68) ∧ kd H2 (ma 68) = 1068 ∧ ln H2 (ma 68) = 385 := hM2.2 68 (by decide)
                  obtain ⟨e79a_2, e79b_2, e79c_2⟩ : gR H2 79 m = some (ma 79) ∧ kd H2 (ma 79) = 1079 ∧ ln H2 (ma 79) = 8 := hM2.2 79 (by decide)
                  obtain ⟨e80a_2, e80b_2, e80c_2⟩ : gR H2 80 m = some (ma 80) ∧ kd H2 (ma 80) = 1080 ∧ ln H2 (ma 80) = 8 := hM2.2 80 (by decide)
                  obtain ⟨e83a_2, e83b_2, e83c_2⟩ : gR H2 83 m = some (ma 83) ∧ kd H2 (ma 83) = 1083 ∧ ln H2 (ma 83) = 9 := hM2.2 83 (by decide)
                  have hgH2 : gA H2 1068 (ma 68) = g := by rw [hU2.g68 (by decide)]; exact hg
                  have v81 : gI H2 81 m = gI H 81 m := by rw [cI]
                  have v82 : gI H2 82 m = gI H 82 m := by rw [cI]
                  have w83 : ∀ i, i ≤ deep → gA H2 1083 (ma 83) i = gA H 1083 (ma 83) i := fun i hi => by rw [c83]; exact pk_un (by omega)
                  have w79 : ∀ i, i < deep → gA H2 1079 (ma 79) i = nI (row.getD i 0) := fun i hi => by rw [c79, pk_un (by omega)]; exact hrw i hi
                  have w79d : gA H2 1079 (ma 79) deep = nI t0 := by rw [c79]; exact pk_us
                  have hbr2 : BRep H2 m ma b := by
                    cases b with
                    | none => exact v81.trans hbr
                    | some x =>
                      obtain ⟨r, s0⟩ := x
                      obtain ⟨z1, z2, z3, z4, z5⟩ := hbr
                      exact ⟨v81.trans z1, z2, v82.trans z3, z4, fun k hk => by rw [c80]; exact z5 k hk⟩
                  refine r_iload dX3_findsWay_192 rfl ?_
                  refine r_iconst (v := nI 1) dX3_findsWay_194 (by decide) ?_
                  refine r_aload_n (i := 3) dX3_findsWay_195 rfl rfl ?_
                  refine r_iload dX3_findsWay_196 rfl ?_
                  refine r_iconst (v := nI 1) dX3_findsWay_198 (by decide) ?_
                  refine r_iadd dX3_findsWay_199 ?_
                  refine r_iald dX3_findsWay_200 (by first | assumption | (simp only [kd_sI, kd_sR, kd_sA, kd_sQ, kd_sL, kd_sD, ln_sI, ln_sR, ln_sA, ln_sQ, ln_sL, ln_sD, gI_sR, gI_sA, gI_sQ, gI_sL, gI_sD, gR_sI, gR_sA, gR_sQ, gR_sL, gR_sD, gA_sI, gA_sR, gA_sQ, gA_sL, gA_sD, gQ_sI, gQ_sR, gQ_sA, gQ_sL, gQ_sD, gL_sI, gL_sR, gL_sA, gL_sQ, gL_sD]; assumption) | simp [kd_sI, kd_sR, kd_sA, kd_sQ, kd_sL, kd_sD, ln_sI, ln_sR, ln_sA, ln_sQ, ln_sL, ln_sD, gI_sR, gI_sA, gI_sQ, gI_sL, gI_sD, gR_sI, gR_sA, gR_sQ, gR_sL, gR_sD, gA_sI, gA_sR, gA_sQ, gA_sL, gA_sD, gQ_sI, gQ_sR, gQ_sA, gQ_sL, gQ_sD, gL_sI, gL_sR, gL_sA, gL_sQ, gL_sD, kd_nO, kd_nA, *]) (by decide) (by first | assumption | exact gI_sIs | exact gR_sRs | with_reducible rfl | (simp only [kd_sI, kd_sR, kd_sA, kd_sQ, kd_sL, kd_sD, ln_sI, ln_sR, ln_sA, ln_sQ, ln_sL, ln_sD, gI_sR, gI_sA, gI_sQ, gI_sL, gI_sD, gR_sI, gR_sA, gR_sQ, gR_sL, gR_sD, gA_sI, gA_sR, gA_sQ, gA_sL, gA_sD, gQ_sI, gQ_sR, gQ_sA, gQ_sL, gQ_sD, gL_sI, gL_sR, gL_sA, gL_sQ, gL_sD]; first | done | assumption | with_reducible rfl) | rfl) (by first | with_reducible rfl | assumption | (simp only [nI_add, pk_mul, nI_1]; with_reducible rfl)) (by first | assumption | omega) (by first | assumption | omega) (by first | assumption | exact gI_sIs | exact gR_sRs | with_reducible rfl | (simp only [kd_sI, kd_sR, kd_sA, kd_sQ, kd_sL, kd_sD, ln_sI, ln_sR, ln_sA, ln_sQ, ln_sL, ln_sD, gI_sR, gI_sA, gI_sQ, gI_sL, gI_sD, gR_sI, gR_sA, gR_sQ, gR_sL, gR_sD, gA_sI, gA_sR, gA_sQ, gA_sL, gA_sD, gQ_sI, gQ_sR, gQ_sA, gQ_sL, gQ_sD, gL_sI, gL_sR, gL_sA, gL_sQ, gL_sD]; first | done | assumption | with_reducible rfl) | rfl) ?_
                  refine r_ishl dX3_findsWay_201 ?_
                  refine r_ior dX3_findsWay_202 ?_
                  rw [b2]
                  refine r_istore dX3_findsWay_203 (Nat.le_of_ble_eq_true rfl) (by simp only [lset]; rfl) ?_
                  refine r_iload dX3_findsWay_205 rfl ?_
                  refine r_aload_n (i := 0) dX3_findsWay_207 rfl rfl ?_
                  refine r_iload dX3_findsWay_208 rfl ?_
                  refine r_iconst (v := nI 2) dX3_findsWay_210 (by decide) ?_
                  refine r_callV (As := [_, _]) (mc' := 0) (ms' := 0) dX3_findsWay_211 k_X3_121 rfl (by first | assumption | (simp only [kd_sI, kd_sR, kd_sA, kd_sQ, kd_sL, kd_sD, ln_sI, ln_sR, ln_sA, ln_sQ, ln_sL, ln_sD, gI_sR, gI_sA, gI_sQ, gI_sL, gI_sD, gR_sI, gR_sA, gR_sQ, gR_sL, gR_sD, gA_sI, gA_sR, gA_sQ, gA_sL, gA_sD, gQ_sI, gQ_sR, gQ_sA, gQ_sL, gQ_sD, gL_sI, gL_sR, gL_sA, gL_sQ, gL_sD]; assumption) | simp [kd_sI, kd_sR, kd_sA, kd_sQ, kd_sL, kd_sD, ln_sI, ln_sR, ln_sA, ln_sQ, ln_sL, ln_sD, gI_sR, gI_sA, gI_sQ, gI_sL, gI_sD, gR_sI, gR_sA, gR_sQ, gR_sL, gR_sD, gA_sI, gA_sR, gA_sQ, gA_sL, gA_sD, gQ_sI, gQ_sR, gQ_sA, gQ_sL, gQ_sD, gL_sI, gL_sR, gL_sA, gL_sQ, gL_sD, kd_nO, kd_nA, *]) (T := TX3) (N := 27) rfl (by first | assumption | omega) (by first | assumption | omega) (by first | assumption | omega) (Nat.le_of_ble_eq_true rfl) ?_
                  refine s_trayTold hM2 (by omega) ?_
                  rw [hgH2, show 41 + 5 * t0 + 2 = 43 + 5 * t0 by omega]
                  refine r_iadd dX3_findsWay_214 ?_
                  refine r_istore dX3_findsWay_215 (Nat.le_of_ble_eq_true rfl) (by simp only [lset]; rfl) ?_
                  refine r_aload_n (i := 3) dX3_findsWay_217 rfl rfl ?_
                  refine r_iload dX3_findsWay_218 rfl ?_
                  refine r_iconst (v := nI 1) dX3_findsWay_220 (by decide) ?_
                  refine r_iadd dX3_findsWay_221 ?_
                  refine r_iald dX3_findsWay_222 (by first | assumption | (simp only [kd_sI, kd_sR, kd_sA, kd_sQ, kd_sL, kd_sD, ln_sI, ln_sR, ln_sA, ln_sQ, ln_sL, ln_sD, gI_sR, gI_sA, gI_sQ, gI_sL, gI_sD, gR_sI, gR_sA, gR_sQ, gR_sL, gR_sD, gA_sI, gA_sR, gA_sQ, gA_sL, gA_sD, gQ_sI, gQ_sR, gQ_sA, gQ_sL, gQ_sD, gL_sI, gL_sR, gL_sA, gL_sQ, gL_sD]; assumption) | simp [kd_sI, kd_sR, kd_sA, kd_sQ, kd_sL, kd_sD, ln_sI, ln_sR, ln_sA, ln_sQ, ln_sL, ln_sD, gI_sR, gI_sA, gI_sQ, gI_sL, gI_sD, gR_sI, gR_sA, gR_sQ, gR_sL, gR_sD, gA_sI, gA_sR, gA_sQ, gA_sL, gA_sD, gQ_sI, gQ_sR, gQ_sA, gQ_sL, gQ_sD, gL_sI, gL_sR, gL_sA, gL_sQ, gL_sD, kd_nO, kd_nA, *]) (by decide) (by first | assumption | exact gI_sIs | exact gR_sRs | with_reducible rfl | (simp only [kd_sI, kd_sR, kd_sA, kd_sQ, kd_sL, kd_sD, ln_sI, ln_sR, ln_sA, ln_sQ, ln_sL, ln_sD, gI_sR, gI_sA, gI_sQ, gI_sL, gI_sD, gR_sI, gR_sA, gR_sQ, gR_sL, gR_sD, gA_sI, gA_sR, gA_sQ, gA_sL, gA_sD, gQ_sI, gQ_sR, gQ_sA, gQ_sL, gQ_sD, gL_sI, gL_sR, gL_sA, gL_sQ, gL_sD]; first | done | assumption | with_reducible rfl) | rfl) (by first | with_reducible rfl | assumption | (simp only [nI_add, pk_mul, nI_1]; with_reducible rfl)) (by first | assumption | omega) (by first | assumption | omega) (by first | assumption | exact gI_sIs | exact gR_sRs | with_reducible rfl | (simp only [kd_sI, kd_sR, kd_sA, kd_sQ, kd_sL, kd_sD, ln_sI, ln_sR, ln_sA, ln_sQ, ln_sL, ln_sD, gI_sR, gI_sA, gI_sQ, gI_sL, gI_sD, gR_sI, gR_sA, gR_sQ, gR_sL, gR_sD, gA_sI, gA_sR, gA_sQ, gA_sL, gA_sD, gQ_sI, gQ_sR, gQ_sA, gQ_sL, gQ_sD, gL_sI, gL_sR, gL_sA, gL_sQ, gL_sD]; first | done | assumption | with_reducible rfl) | rfl) ?_
                  refine r_iload_n (i := 2) dX3_findsWay_223 rfl rfl ?_
                  refine r_icmp_eq (tgt := 241) dX3_findsWay_224 (by decide) (fun h224 => ?_) (fun h224 => ?_)
                  · have hot : o = to := (nI_eq8 q2 hto).mp h224
                    have hst : dfsStep (dfs g op to f) g op to p mask row s t0 b = bUp (row ++ [t0]) (s + g (43 + 5 * t0)) b := by
                      unfold dfsStep
                      rw [he]
                      dsimp only
                      rw [hv, ho, if_neg (by decide), if_pos hot]
                    have keep : bUp (row ++ [t0]) (s + g (43 + 5 * t0)) b = b → ∀ y8 y9, AW mX3_findsWay G d Qr Qx 0 0 H2 321 [some (vR (some m)), some (vI (nI fr)), some (vI (nI to)), some (vR (some (ma 83))), some (vI (nI deep)), some (vI (nI (mask ||| 2 ^ o))), some (vI (s + g (43 + 5 * t0))), x7, y8, y9] [] := by
                      intro hk y8 y9
                      refine r_goto (tgt := 37) dX3_findsWay_321 (by decide) ?_
                      exact undo b H2 _ _ _ hU2 w83 cat w79 w79d hbr2 (hst.trans hk)
                    have take : bUp (row ++ [t0]) (s + g (43 + 5 * t0)) b = some (row ++ [t0], s + g (43 + 5 * t0)) → AW mX3_findsWay G d Qr Qx 0 0 H2 277 [some (vR (some m)), some (vI (nI fr)), some (vI (nI to)), some (vR (some (ma 83))), some (vI (nI deep)), some (vI (nI (mask ||| 2 ^ o))), some (vI (s + g (43 + 5 * t0))), x7, some (vI (nI t0)), x9] [] := by
                      intro hk
                      refine r_aload_n (i := 0) dX3_findsWay_277 rfl rfl ?_
                      refine r_iload dX3_findsWay_278 rfl ?_
                      refine r_iconst (v := nI 1) dX3_findsWay_280 (by decide) ?_
                      refine r_iadd dX3_findsWay_281 ?_
                      rw [nI_add]
                      refine r_putI dX3_findsWay_282 fG_X3_151 (fun _ => by first | rfl | contradiction) (by first | assumption | (simp only [kd_sI, kd_sR, kd_sA, kd_sQ, kd_sL, kd_sD, ln_sI, ln_sR, ln_sA, ln_sQ, ln_sL, ln_sD, gI_sR, gI_sA, gI_sQ, gI_sL, gI_sD, gR_sI, gR_sA, gR_sQ, gR_sL, gR_sD, gA_sI, gA_sR, gA_sQ, gA_sL, gA_sD, gQ_sI, gQ_sR, gQ_sA, gQ_sL, gQ_sD, gL_sI, gL_sR, gL_sA, gL_sQ, gL_sD]; assumption) | simp [kd_sI, kd_sR, kd_sA, kd_sQ, kd_sL, kd_sD, ln_sI, ln_sR, ln_sA, ln_sQ, ln_sL, ln_sD, gI_sR, gI_sA, gI_sQ, gI_sL, gI_sD, gR_sI, gR_sA, gR_sQ, gR_sL, gR_sD, gA_sI, gA_sR, gA_sQ, gA_sL, gA_sD, gQ_sI, gQ_sR, gQ_sA, gQ_sL, gQ_sD, gL_sI, gL_sR, gL_sA, gL_sQ, gL_sD, kd_nO, kd_nA, *]) (by first | rfl | assumption) (by first | rfl | assumption) ?_
                      refine r_aload_n (i := 0) dX3_findsWay_285 rfl rfl ?_
                      refine r_iload dX3_findsWay_286 rfl ?_
                      refine r_putI dX3_findsWay_288 fG_X3_154 (fun _ => by first | rfl | contradiction) (by first | assumption | (simp only [kd_sI, kd_sR, kd_sA, kd_sQ, kd_sL, kd_sD, ln_sI, ln_sR, ln_sA, ln_sQ, ln_sL, ln_sD, gI_sR, gI_sA, gI_sQ, gI_sL, gI_sD, gR_sI, gR_sA, gR_sQ, gR_sL, gR_sD, gA_sI, gA_sR, gA_sQ, gA_sL, gA_sD, gQ_sI, gQ_sR, gQ_sA, gQ_sL, gQ_sD, gL_sI, gL_sR, gL_sA, gL_sQ, gL_sD]; assumption) | simp [kd_sI, kd_sR, kd_sA, kd_sQ, kd_sL, kd_sD, ln_sI, ln_sR, ln_sA, ln_sQ, ln_sL, ln_sD, gI_sR, gI_sA, gI_sQ, gI_sL, gI_sD, gR_sI, gR_sA, gR_sQ, gR_sL, gR_sD, gA_sI, gA_sR, gA_sQ, gA_sL, gA_sD, gQ_sI, gQ_sR, gQ_sA, gQ_sL, gQ_sD, gL_sI, gL_sR, gL_sA, gL_sQ, gL_sD, kd_nO, kd_nA, *]) (by first | rfl | assumption) (by first | rfl | assumption) ?_
                      refine AW.name (fun H3 hH3 => ?_)
                      have hU3 : MU m ma [79, 80, 81, 82, 83] H0 H3 := by rw [hH3]; exact (hU2.sI (f := 81) (by decide) (by decide) (by decide)).sI (f := 82) (by decide) (by decide) (by decide)
                      have y81 : gI H3 81 m = nI (deep + 1) := by rw [hH3, gI_sI, if_neg (by simp), gI_sIs]
                      have y82 : gI H3 82 m = s + g (43 + 5 * t0) := by rw [hH3, gI_sIs]
                      have yA : gA H3 = gA H2 := by rw [hH3]; rfl
                      have cp : ∀ (k j : Nat) (H4 : AH), j + k = deep + 1 → MU m ma [79, 80, 81, 82, 83] H0 H4 → gI H4 81 m = nI (deep + 1) → gI H4 82 m = s + g (43 + 5 * t0) → gA H4 1083 = gA H2 1083 → gA H4 1079 = gA H2 1079 → (∀ i, i < j → gA H4 1080 (ma 80) i = nI ((row ++ [t0]).getD i 0)) →
                          AW mX3_findsWay G d Qr Qx 0 0 H4 294 [some (vR (some m)), some (vI (nI fr)), some (vI (nI to)), some (vR (some (ma 83))), some (vI (nI deep)), some (vI (nI (mask ||| 2 ^ o))), some (vI (s + g (43 + 5 * t0))), x7, some (vI (nI t0)), some (vI (nI j))] [] := by
                        intro k
                        induction k with
                        | zero =>
                          intro j H4 hj z1 z2 z3 z4 z5 z6
                          refine r_iload dX3_findsWay_294 rfl ?_
                          refine r_iload dX3_findsWay_296 rfl ?_
                          refine r_icmp_gt (tgt := 321) dX3_findsWay_298 (by decide) (fun h298 => ?_) (fun h298 => ?_)
                          · refine r_goto (tgt := 37) dX3_findsWay_321 (by decide) ?_
                            refine undo (some (row ++ [t0], s + g (43 + 5 * t0))) H4 _ _ _ z1 (fun i hi => by rw [z4]; exact w83 i hi) (by rw [z4]; exact cat) (fun i hi => by rw [z5]; exact w79 i hi) (by rw [z5]; exact w79d) ⟨by rw [hlen]; exact z2, by simp, z3, by omega, fun i hi => z6 i (by omega)⟩ (hst.trans hk)
                          · exact absurd (nI_lt (show deep < j by omega) (by omega)) h298
                        | succ k ih =>
                          intro j H4 hj z1 z2 z3 z4 z5 z6
                          have hM4 := hM0.mf z1.1
                          have e04 := hM4.1
                          obtain ⟨e79a_4, e79b_4, e79c_4⟩ : gR H4 79 m = some (ma 79) ∧ kd H4 (ma 79) = 1079 ∧ ln H4 (ma 79) = 8 := hM4.2 79 (by decide)
                          obtain ⟨e80a_4, e80b_4, e80c_4⟩ : gR H4 80 m = some (ma 80) ∧ kd H4 (ma 80) = 1080 ∧ ln H4 (ma 80) = 8 := hM4.2 80 (by decide)
                          refine r_iload dX3_findsWay_294 rfl ?_
                          refine r_iload dX3_findsWay_296 rfl ?_
                          refine r_icmp_gt (tgt := 321) dX3_findsWay_298 (by decide) (fun h298 => ?_) (fun h298 => ?_)
                          · exact absurd h298 (nI_nlt (by omega) (by omega))
                          · refine r_aload_n (i := 0) dX3_findsWay_301 rfl rfl ?_
                            refine r_getR dX3_findsWay_302 fR_X3_32 (by first | assumption | (simp only [kd_sI, kd_sR, kd_sA, kd_sQ, kd_sL, kd_sD, ln_sI, ln_sR, ln_sA, ln_sQ, ln_sL, ln_sD, gI_sR, gI_sA, gI_sQ, gI_sL, gI_sD, gR_sI, gR_sA, gR_sQ, gR_sL, gR_sD, gA_sI, gA_sR, gA_sQ, gA_sL, gA_sD, gQ_sI, gQ_sR, gQ_sA, gQ_sL, gQ_sD, gL_sI, gL_sR, gL_sA, gL_sQ, gL_sD]; assumption) | simp [kd_sI, kd_sR, kd_sA, kd_sQ, kd_sL, kd_sD, ln_sI, ln_sR, ln_sA, ln_sQ, ln_sL, ln_sD, gI_sR, gI_sA, gI_sQ, gI_sL, gI_sD, gR_sI, gR_sA, gR_sQ, gR_sL, gR_sD, gA_sI, gA_sR, gA_sQ, gA_sL, gA_sD, gQ_sI, gQ_sR, gQ_sA, gQ_sL, gQ_sD, gL_sI, gL_sR, gL_sA, gL_sQ, gL_sD, kd_nO, kd_nA, *]) (by first | assumption | exact gI_sIs | exact gR_sRs | with_reducible rfl | (simp only [kd_sI, kd_sR, kd_sA, kd_sQ, kd_sL, kd_sD, ln_sI, ln_sR, ln_sA, ln_sQ, ln_sL, ln_sD, gI_sR, gI_sA, gI_sQ, gI_sL, gI_sD, gR_sI, gR_sA, gR_sQ, gR_sL, gR_sD, gA_sI, gA_sR, gA_sQ, gA_sL, gA_sD, gQ_sI, gQ_sR, gQ_sA, gQ_sL, gQ_sD, gL_sI, gL_sR, gL_sA, gL_sQ, gL_sD]; first | done | assumption | with_reducible rfl) | rfl) ?_
                            refine r_iload dX3_findsWay_305 rfl ?_
                            refine r_aload_n (i := 0) dX3_findsWay_307 rfl rfl ?_
                            refine r_getR dX3_findsWay_308 fR_X3_29 (by first | assumption | (simp only [kd_sI, kd_sR, kd_sA, kd_sQ, kd_sL, kd_sD, ln_sI, ln_sR, ln_sA, ln_sQ, ln_sL, ln_sD, gI_sR, gI_sA, gI_sQ, gI_sL, gI_sD, gR_sI, gR_sA, gR_sQ, gR_sL, gR_sD, gA_sI, gA_sR, gA_sQ, gA_sL, gA_sD, gQ_sI, gQ_sR, gQ_sA, gQ_sL, gQ_sD, gL_sI, gL_sR, gL_sA, gL_sQ, gL_sD]; assumption) | simp [kd_sI, kd_sR, kd_sA, kd_sQ, kd_sL, kd_sD, ln_sI, ln_sR, ln_sA, ln_sQ, ln_sL, ln_sD, gI_sR, gI_sA, gI_sQ, gI_sL, gI_sD, gR_sI, gR_sA, gR_sQ, gR_sL, gR_sD, gA_sI, gA_sR, gA_sQ, gA_sL, gA_sD, gQ_sI, gQ_sR, gQ_sA, gQ_sL, gQ_sD, gL_sI, gL_sR, gL_sA, gL_sQ, gL_sD, kd_nO, kd_nA, *]) (by first | assumption | exact gI_sIs | exact gR_sRs | with_reducible rfl | (simp only [kd_sI, kd_sR, kd_sA, kd_sQ, kd_sL, kd_sD, ln_sI, ln_sR, ln_sA, ln_sQ, ln_sL, ln_sD, gI_sR, gI_sA, gI_sQ, gI_sL, gI_sD, gR_sI, gR_sA, gR_sQ, gR_sL, gR_sD, gA_sI, gA_sR, gA_sQ, gA_sL, gA_sD, gQ_sI, gQ_sR, gQ_sA, gQ_sL, gQ_sD, gL_sI, gL_sR, gL_sA, gL_sQ, gL_sD]; first | done | assumption | with_reducible rfl) | rfl) ?_
                            refine r_iload dX3_findsWay_311 rfl ?_
                            refine r_iald dX3_findsWay_313 (by first | assumption | (simp only [kd_sI, kd_sR, kd_sA, kd_sQ, kd_sL, kd_sD, ln_sI, ln_sR, ln_sA, ln_sQ, ln_sL, ln_sD, gI_sR, gI_sA, gI_sQ, gI_sL, gI_sD, gR_sI, gR_sA, gR_sQ, gR_sL, gR_sD, gA_sI, gA_sR, gA_sQ, gA_sL, gA_sD, gQ_sI, gQ_sR, gQ_sA, gQ_sL, gQ_sD, gL_sI, gL_sR, gL_sA, gL_sQ, gL_sD]; assumption) | simp [kd_sI, kd_sR, kd_sA, kd_sQ, kd_sL, kd_sD, ln_sI, ln_sR, ln_sA, ln_sQ, ln_sL, ln_sD, gI_sR, gI_sA, gI_sQ, gI_sL, gI_sD, gR_sI, gR_sA, gR_sQ, gR_sL, gR_sD, gA_sI, gA_sR, gA_sQ, gA_sL, gA_sD, gQ_sI, gQ_sR, gQ_sA, gQ_sL, gQ_sD, gL_sI, gL_sR, gL_sA, gL_sQ, gL_sD, kd_nO, kd_nA, *]) (by decide) (by first | assumption | exact gI_sIs | exact gR_sRs | with_reducible rfl | (simp only [kd_sI, kd_sR, kd_sA, kd_sQ, kd_sL, kd_sD, ln_sI, ln_sR, ln_sA, ln_sQ, ln_sL, ln_sD, gI_sR, gI_sA, gI_sQ, gI_sL, gI_sD, gR_sI, gR_sA, gR_sQ, gR_sL, gR_sD, gA_sI, gA_sR, gA_sQ, gA_sL, gA_sD, gQ_sI, gQ_sR, gQ_sA, gQ_sL, gQ_sD, gL_sI, gL_sR, gL_sA, gL_sQ, gL_sD]; first | done | assumption | with_reducible rfl) | rfl) (by first | with_reducible rfl | assumption | (simp only [nI_add, pk_mul, nI_1]; with_reducible rfl)) (by first | assumption | omega) (by first | assumption | omega) (by first | assumption | exact gI_sIs | exact gR_sRs | with_reducible rfl | (simp only [kd_sI, kd_sR, kd_sA, kd_sQ, kd_sL, kd_sD, ln_sI, ln_sR, ln_sA, ln_sQ, ln_sL, ln_sD, gI_sR, gI_sA, gI_sQ, gI_sL, gI_sD, gR_sI, gR_sA, gR_sQ, gR_sL, gR_sD, gA_sI, gA_sR, gA_sQ, gA_sL, gA_sD, gQ_sI, gQ_sR, gQ_sA, gQ_sL, gQ_sD, gL_sI, gL_sR, gL_sA, gL_sQ, gL_sD]; first | done | assumption | with_reducible rfl) | rfl) ?_
                            refine r_iast dX3_findsWay_314 (by first | assumption | (simp only [kd_sI, kd_sR, kd_sA, kd_sQ, kd_sL, kd_sD, ln_sI, ln_sR, ln_sA, ln_sQ, ln_sL, ln_sD, gI_sR, gI_sA, gI_sQ, gI_sL, gI_sD, gR_sI, gR_sA, gR_sQ, gR_sL, gR_sD, gA_sI, gA_sR, gA_sQ, gA_sL, gA_sD, gQ_sI, gQ_sR, gQ_sA, gQ_sL, gQ_sD, gL_sI, gL_sR, gL_sA, gL_sQ, gL_sD]; assumption) | simp [kd_sI, kd_sR, kd_sA, kd_sQ, kd_sL, kd_sD, ln_sI, ln_sR, ln_sA, ln_sQ, ln_sL, ln_sD, gI_sR, gI_sA, gI_sQ, gI_sL, gI_sD, gR_sI, gR_sA, gR_sQ, gR_sL, gR_sD, gA_sI, gA_sR, gA_sQ, gA_sL, gA_sD, gQ_sI, gQ_sR, gQ_sA, gQ_sL, gQ_sD, gL_sI, gL_sR, gL_sA, gL_sQ, gL_sD, kd_nO, kd_nA, *]) (by decide) (by first | assumption | exact gI_sIs | exact gR_sRs | with_reducible rfl | (simp only [kd_sI, kd_sR, kd_sA, kd_sQ, kd_sL, kd_sD, ln_sI, ln_sR, ln_sA, ln_sQ, ln_sL, ln_sD, gI_sR, gI_sA, gI_sQ, gI_sL, gI_sD, gR_sI, gR_sA, gR_sQ, gR_sL, gR_sD, gA_sI, gA_sR, gA_sQ, gA_sL, gA_sD, gQ_sI, gQ_sR, gQ_sA, gQ_sL, gQ_sD, gL_sI, gL_sR, gL_sA, gL_sQ, gL_sD]; first | done | assumption | with_reducible rfl) | rfl) (by first | with_reducible rfl | assumption | (simp only [nI_add, pk_mul, nI_1]; with_reducible rfl)) (by first | assumption | omega) (by first | assumption | omega) ?_
                            refine AW.name (fun H5 hH5 => ?_)
                            refine r_iinc dX3_findsWay_315 rfl (by first | exact nI_1 _ | rfl) (by simp only [lset]; rfl) ?_
                            refine r_goto (tgt := 294) dX3_findsWay_318 (by decide) ?_
                            refine ih (j + 1) H5 (by omega) (by rw [hH5]; exact z1.sA (f := 80) (Or.inl (by decide)) (by decide) (by decide)) (by rw [hH5]; exact z2) (by rw [hH5]; exact z3) (by rw [hH5]; exact z4) (by rw [hH5]; exact z5) ?_
                            intro i hi
                            have : gA H5 1080 (ma 80) = upd (gA H4 1080 (ma 80)) j (gA H4 1079 (ma 79) j) := by rw [hH5]; exact gA_sAs
                            rw [this]
                            by_cases hij : i = j
                            · subst hij
                              rw [pk_us, z5]
                              rcases Nat.lt_or_ge i deep with hlt | hge
                              · rw [w79 i hlt, hgd i hlt]
                              · rw [show i = deep by omega, w79d, hgl]
                            · rw [pk_un hij]
                              exact z6 i (by omega)
                      refine r_iconst (v := nI 0) dX3_findsWay_291 (by decide) ?_
                      refine r_istore dX3_findsWay_292 (Nat.le_of_ble_eq_true rfl) (by simp only [lset]; rfl) ?_
                      exact cp (deep + 1) 0 H3 (by omega) hU3 y81 y82 (by rw [yA]) (by rw [yA]) (fun i hi => absurd hi (by omega))
                    refine r_aload_n (i := 0) dX3_findsWay_241 rfl rfl ?_
                    refine r_getI dX3_findsWay_242 fR_X3_151 (by first | assumption | (simp only [kd_sI, kd_sR, kd_sA, kd_sQ, kd_sL, kd_sD, ln_sI, ln_sR, ln_sA, ln_sQ, ln_sL, ln_sD, gI_sR, gI_sA, gI_sQ, gI_sL, gI_sD, gR_sI, gR_sA, gR_sQ, gR_sL, gR_sD, gA_sI, gA_sR, gA_sQ, gA_sL, gA_sD, gQ_sI, gQ_sR, gQ_sA, gQ_sL, gQ_sD, gL_sI, gL_sR, gL_sA, gL_sQ, gL_sD]; assumption) | simp [kd_sI, kd_sR, kd_sA, kd_sQ, kd_sL, kd_sD, ln_sI, ln_sR, ln_sA, ln_sQ, ln_sL, ln_sD, gI_sR, gI_sA, gI_sQ, gI_sL, gI_sD, gR_sI, gR_sA, gR_sQ, gR_sL, gR_sD, gA_sI, gA_sR, gA_sQ, gA_sL, gA_sD, gQ_sI, gQ_sR, gQ_sA, gQ_sL, gQ_sD, gL_sI, gL_sR, gL_sA, gL_sQ, gL_sD, kd_nO, kd_nA, *]) (by first | assumption | exact gI_sIs | exact gR_sRs | with_reducible rfl | (simp only [kd_sI, kd_sR, kd_sA, kd_sQ, kd_sL, kd_sD, ln_sI, ln_sR, ln_sA, ln_sQ, ln_sL, ln_sD, gI_sR, gI_sA, gI_sQ, gI_sL, gI_sD, gR_sI, gR_sA, gR_sQ, gR_sL, gR_sD, gA_sI, gA_sR, gA_sQ, gA_sL, gA_sD, gQ_sI, gQ_sR, gQ_sA, gQ_sL, gQ_sD, gL_sI, gL_sR, gL_sA, gL_sQ, gL_sD]; first | done | assumption | with_reducible rfl) | rfl) ?_
                    refine r_if_eq (tgt := 277) dX3_findsWay_245 (by decide) (fun h245 => ?_) (fun h245 => ?_)
                    · refine take ?_
                      cases b with
                      | none => rfl
                      | some x =>
                        obtain ⟨r, s0⟩ := x
                        obtain ⟨z1, z2, -, z4, -⟩ := hbr
                        rw [z1] at h245
                        exact absurd h245 (nI_ne0 (List.length_pos_iff.mpr z2) (by omega))
                    · refine r_iload dX3_findsWay_248 rfl ?_
                      refine r_aload_n (i := 0) dX3_findsWay_250 rfl rfl ?_
                      refine r_getI dX3_findsWay_251 fR_X3_154 (by first | assumption | (simp only [kd_sI, kd_sR, kd_sA, kd_sQ, kd_sL, kd_sD, ln_sI, ln_sR, ln_sA, ln_sQ, ln_sL, ln_sD, gI_sR, gI_sA, gI_sQ, gI_sL, gI_sD, gR_sI, gR_sA, gR_sQ, gR_sL, gR_sD, gA_sI, gA_sR, gA_sQ, gA_sL, gA_sD, gQ_sI, gQ_sR, gQ_sA, gQ_sL, gQ_sD, gL_sI, gL_sR, gL_sA, gL_sQ, gL_sD]; assumption) | simp [kd_sI, kd_sR, kd_sA, kd_sQ, kd_sL, kd_sD, ln_sI, ln_sR, ln_sA, ln_sQ, ln_sL, ln_sD, gI_sR, gI_sA, gI_sQ, gI_sL, gI_sD, gR_sI, gR_sA, gR_sQ, gR_sL, gR_sD, gA_sI, gA_sR, gA_sQ, gA_sL, gA_sD, gQ_sI, gQ_sR, gQ_sA, gQ_sL, gQ_sD, gL_sI, gL_sR, gL_sA, gL_sQ, gL_sD, kd_nO, kd_nA, *]) (by first | assumption | exact gI_sIs | exact gR_sRs | with_reducible rfl | (simp only [kd_sI, kd_sR, kd_sA, kd_sQ, kd_sL, kd_sD, ln_sI, ln_sR, ln_sA, ln_sQ, ln_sL, ln_sD, gI_sR, gI_sA, gI_sQ, gI_sL, gI_sD, gR_sI, gR_sA, gR_sQ, gR_sL, gR_sD, gA_sI, gA_sR, gA_sQ, gA_sL, gA_sD, gQ_sI, gQ_sR, gQ_sA, gQ_sL, gQ_sD, gL_sI, gL_sR, gL_sA, gL_sQ, gL_sD]; first | done | assumption | with_reducible rfl) | rfl) ?_
                      refine r_icmp_lt (tgt := 277) dX3_findsWay_254 (by decide) (fun h254 => ?_) (fun h254 => ?_)
                      · refine take ?_
                        cases b with
                        | none => rfl
                        | some x =>
                          obtain ⟨r, s0⟩ := x
                          obtain ⟨z1, z2, z3, z4, -⟩ := hbr
                          rw [z3] at h254
                          exact if_pos (Or.inl h254)
                      · refine r_iload dX3_findsWay_257 rfl ?_
                        refine r_aload_n (i := 0) dX3_findsWay_259 rfl rfl ?_
                        refine r_getI dX3_findsWay_260 fR_X3_154 (by first | assumption | (simp only [kd_sI, kd_sR, kd_sA, kd_sQ, kd_sL, kd_sD, ln_sI, ln_sR, ln_sA, ln_sQ, ln_sL, ln_sD, gI_sR, gI_sA, gI_sQ, gI_sL, gI_sD, gR_sI, gR_sA, gR_sQ, gR_sL, gR_sD, gA_sI, gA_sR, gA_sQ, gA_sL, gA_sD, gQ_sI, gQ_sR, gQ_sA, gQ_sL, gQ_sD, gL_sI, gL_sR, gL_sA, gL_sQ, gL_sD]; assumption) | simp [kd_sI, kd_sR, kd_sA, kd_sQ, kd_sL, kd_sD, ln_sI, ln_sR, ln_sA, ln_sQ, ln_sL, ln_sD, gI_sR, gI_sA, gI_sQ, gI_sL, gI_sD, gR_sI, gR_sA, gR_sQ, gR_sL, gR_sD, gA_sI, gA_sR, gA_sQ, gA_sL, gA_sD, gQ_sI, gQ_sR, gQ_sA, gQ_sL, gQ_sD, gL_sI, gL_sR, gL_sA, gL_sQ, gL_sD, kd_nO, kd_nA, *]) (by first | assumption | exact gI_sIs | exact gR_sRs | with_reducible rfl | (simp only [kd_sI, kd_sR, kd_sA, kd_sQ, kd_sL, kd_sD, ln_sI, ln_sR, ln_sA, ln_sQ, ln_sL, ln_sD, gI_sR, gI_sA, gI_sQ, gI_sL, gI_sD, gR_sI, gR_sA, gR_sQ, gR_sL, gR_sD, gA_sI, gA_sR, gA_sQ, gA_sL, gA_sD, gQ_sI, gQ_sR, gQ_sA, gQ_sL, gQ_sD, gL_sI, gL_sR, gL_sA, gL_sQ, gL_sD]; first | done | assumption | with_reducible rfl) | rfl) ?_
                        refine r_icmp_ne (tgt := 321) dX3_findsWay_263 (by decide) (fun h263 => ?_) (fun h263 => ?_)
                        · refine keep ?_ _ _
                          cases b with
                          | none => exact absurd hbr h245
                          | some x =>
                            obtain ⟨r, s0⟩ := x
                            obtain ⟨z1, z2, z3, z4, -⟩ := hbr
                            rw [z3] at h254 h263
                            exact if_neg (fun q => q.elim h254 (fun q => h263 q.1))
                        · refine r_iload dX3_findsWay_266 rfl ?_
                          refine r_iconst (v := nI 1) dX3_findsWay_268 (by decide) ?_
                          refine r_iadd dX3_findsWay_269 ?_
                          refine r_aload_n (i := 0) dX3_findsWay_270 rfl rfl ?_
                          refine r_getI dX3_findsWay_271 fR_X3_151 (by first | assumption | (simp only [kd_sI, kd_sR, kd_sA, kd_sQ, kd_sL, kd_sD, ln_sI, ln_sR, ln_sA, ln_sQ, ln_sL, ln_sD, gI_sR, gI_sA, gI_sQ, gI_sL, gI_sD, gR_sI, gR_sA, gR_sQ, gR_sL, gR_sD, gA_sI, gA_sR, gA_sQ, gA_sL, gA_sD, gQ_sI, gQ_sR, gQ_sA, gQ_sL, gQ_sD, gL_sI, gL_sR, gL_sA, gL_sQ, gL_sD]; assumption) | simp [kd_sI, kd_sR, kd_sA, kd_sQ, kd_sL, kd_sD, ln_sI, ln_sR, ln_sA, ln_sQ, ln_sL, ln_sD, gI_sR, gI_sA, gI_sQ, gI_sL, gI_sD, gR_sI, gR_sA, gR_sQ, gR_sL, gR_sD, gA_sI, gA_sR, gA_sQ, gA_sL, gA_sD, gQ_sI, gQ_sR, gQ_sA, gQ_sL, gQ_sD, gL_sI, gL_sR, gL_sA, gL_sQ, gL_sD, kd_nO, kd_nA, *]) (by first | assumption | exact gI_sIs | exact gR_sRs | with_reducible rfl | (simp only [kd_sI, kd_sR, kd_sA, kd_sQ, kd_sL, kd_sD, ln_sI, ln_sR, ln_sA, ln_sQ, ln_sL, ln_sD, gI_sR, gI_sA, gI_sQ, gI_sL, gI_sD, gR_sI, gR_sA, gR_sQ, gR_sL, gR_sD, gA_sI, gA_sR, gA_sQ, gA_sL, gA_sD, gQ_sI, gQ_sR, gQ_sA, gQ_sL, gQ_sD, gL_sI, gL_sR, gL_sA, gL_sQ, gL_sD]; first | done | assumption | with_reducible rfl) | rfl) ?_
                          rw [nI_add]
                          refine r_icmp_ge (tgt := 321) dX3_findsWay_274 (by decide) (fun h274 => ?_) (fun h274 => ?_)
                          · refine keep ?_ _ _
                            cases b with
                            | none => exact absurd hbr h245
                            | some x =>
                              obtain ⟨r, s0⟩ := x
                              obtain ⟨z1, z2, z3, z4, -⟩ := hbr
                              rw [z3] at h254
                              rw [z1] at h274
                              refine if_neg (fun q => q.elim h254 (fun q => ?_))
                              have := q.2
                              rw [hlen] at this
                              exact nI_ge this (by omega) h274
                          · refine take ?_
                            cases b with
                            | none => rfl
                            | some x =>
                              obtain ⟨r, s0⟩ := x
                              obtain ⟨z1, z2, z3, z4, -⟩ := hbr
                              rw [z3] at h263
                              rw [z1] at h274
                              refine if_pos (Or.inr ⟨h263, ?_⟩)
                              rw [hlen]
                              rcases Nat.lt_or_ge (deep + 1) r.length with q | q
                              · exact q
                              · exact absurd (nI_le q (by omega)) h274
                  · have hot : o ≠ to := fun q => h224 (by rw [q])
                    have hst : dfsStep (dfs g op to f) g op to p mask row s t0 b = dfs g op to f o (mask ||| 2 ^ o) (row ++ [t0]) (s + g (43 + 5 * t0)) b := by
                      unfold dfsStep
                      rw [he]
                      dsimp only
                      rw [hv, ho, if_neg (by decide), if_neg hot]
                    obtain ⟨f', hf'⟩ : ∃ f', f = f' + 1 := ⟨f - 1, by
                      have hne : ∀ mask, mask < 256 → ∀ t, t < 8 → mask.testBit t = false → zB mask ≠ 0 := by decide +kernel
                      have := hne (mask ||| 2 ^ o) b4 to hto (by rw [bm_oth mask hm o q2 to hto (Ne.symm hot)]; exact hto0)
                      omega⟩
                    refine r_iinc dX3_findsWay_227 rfl (by first | exact nI_1 _ | rfl) (by simp only [lset]; rfl) ?_
                    refine r_aload_n (i := 0) dX3_findsWay_230 rfl rfl ?_
                    refine r_getR dX3_findsWay_231 fR_X3_29 (by first | assumption | (simp only [kd_sI, kd_sR, kd_sA, kd_sQ, kd_sL, kd_sD, ln_sI, ln_sR, ln_sA, ln_sQ, ln_sL, ln_sD, gI_sR, gI_sA, gI_sQ, gI_sL, gI_sD, gR_sI, gR_sA, gR_sQ, gR_sL, gR_sD, gA_sI, gA_sR, gA_sQ, gA_sL, gA_sD, gQ_sI, gQ_sR, gQ_sA, gQ_sL, gQ_sD, gL_sI, gL_sR, gL_sA, gL_sQ, gL_sD]; assumption) | simp [kd_sI, kd_sR, kd_sA, kd_sQ, kd_sL, kd_sD, ln_sI, ln_sR, ln_sA, ln_sQ, ln_sL, ln_sD, gI_sR, gI_sA, gI_sQ, gI_sL, gI_sD, gR_sI, gR_sA, gR_sQ, gR_sL, gR_sD, gA_sI, gA_sR, gA_sQ, gA_sL, gA_sD, gQ_sI, gQ_sR, gQ_sA, gQ_sL, gQ_sD, gL_sI, gL_sR, gL_sA, gL_sQ, gL_sD, kd_nO, kd_nA, *]) (by first | assumption | exact gI_sIs | exact gR_sRs | with_reducible rfl | (simp only [kd_sI, kd_sR, kd_sA, kd_sQ, kd_sL, kd_sD, ln_sI, ln_sR, ln_sA, ln_sQ, ln_sL, ln_sD, gI_sR, gI_sA, gI_sQ, gI_sL, gI_sD, gR_sI, gR_sA, gR_sQ, gR_sL, gR_sD, gA_sI, gA_sR, gA_sQ, gA_sL, gA_sD, gQ_sI, gQ_sR, gQ_sA, gQ_sL, gQ_sD, gL_sI, gL_sR, gL_sA, gL_sQ, gL_sD]; first | done | assumption | with_reducible rfl) | rfl) ?_
                    refine r_iload dX3_findsWay_234 rfl ?_
                    refine r_iconst (v := -1) dX3_findsWay_236 (by decide) ?_
                    refine r_iast dX3_findsWay_237 (by first | assumption | (simp only [kd_sI, kd_sR, kd_sA, kd_sQ, kd_sL, kd_sD, ln_sI, ln_sR, ln_sA, ln_sQ, ln_sL, ln_sD, gI_sR, gI_sA, gI_sQ, gI_sL, gI_sD, gR_sI, gR_sA, gR_sQ, gR_sL, gR_sD, gA_sI, gA_sR, gA_sQ, gA_sL, gA_sD, gQ_sI, gQ_sR, gQ_sA, gQ_sL, gQ_sD, gL_sI, gL_sR, gL_sA, gL_sQ, gL_sD]; assumption) | simp [kd_sI, kd_sR, kd_sA, kd_sQ, kd_sL, kd_sD, ln_sI, ln_sR, ln_sA, ln_sQ, ln_sL, ln_sD, gI_sR, gI_sA, gI_sQ, gI_sL, gI_sD, gR_sI, gR_sA, gR_sQ, gR_sL, gR_sD, gA_sI, gA_sR, gA_sQ, gA_sL, gA_sD, gQ_sI, gQ_sR, gQ_sA, gQ_sL, gQ_sD, gL_sI, gL_sR, gL_sA, gL_sQ, gL_sD, kd_nO, kd_nA, *]) (by decide) (by first | assumption | exact gI_sIs | exact gR_sRs | with_reducible rfl | (simp only [kd_sI, kd_sR, kd_sA, kd_sQ, kd_sL, kd_sD, ln_sI, ln_sR, ln_sA, ln_sQ, ln_sL, ln_sD, gI_sR, gI_sA, gI_sQ, gI_sL, gI_sD, gR_sI, gR_sA, gR_sQ, gR_sL, gR_sD, gA_sI, gA_sR, gA_sQ, gA_sL, gA_sD, gQ_sI, gQ_sR, gQ_sA, gQ_sL, gQ_sD, gL_sI, gL_sR, gL_sA, gL_sQ, gL_sD]; first | done | assumption | with_reducible rfl) | rfl) (by first | with_reducible rfl | assumption | (simp only [nI_add, pk_mul, nI_1]; with_reducible rfl)) (by first | assumption | omega) (by first | assumption | omega) ?_
                    refine AW.name (fun H3 hH3 => ?_)
                    have hU3 : MU m ma [79, 80, 81, 82, 83] H0 H3 := by rw [hH3]; exact hU2.sA (f := 79) (Or.inl (by decide)) (by decide) (by decide)
                    have d79 : gA H3 1079 (ma 79) = upd (gA H2 1079 (ma 79)) (deep + 1) (-1) := by rw [hH3]; exact gA_sAs
                    have d83 : gA H3 1083 = gA H2 1083 := by rw [hH3]; rfl
                    have d80 : gA H3 1080 = gA H2 1080 := by rw [hH3]; rfl
                    have dI : gI H3 = gI H2 := by rw [hH3]; rfl
                    have dm1 : gA H3 1079 (ma 79) (deep + 1) = -1 := by rw [d79]; exact pk_us
                    have hM3 := hM0.mf hU3.1
                    have e03 := hM3.1
                    obtain ⟨e68a_3, e68b_3, e68c_3⟩ : gR H3 68 m = some (ma 68) ∧ kd H3 (ma 68) = 1068 ∧ ln H3 (ma 68) = 385 := hM3.2 68 (by decide)
                    obtain ⟨e79a_3, e79b_3, e79c_3⟩ : gR H3 79 m = some (ma 79) ∧ kd H3 (ma 79) = 1079 ∧ ln H3 (ma 79) = 8 := hM3.2 79 (by decide)
                    obtain ⟨e80a_3, e80b_3, e80c_3⟩ : gR H3 80 m = some (ma 80) ∧ kd H3 (ma 80) = 1080 ∧ ln H3 (ma 80) = 8 := hM3.2 80 (by decide)
                    obtain ⟨e83a_3, e83b_3, e83c_3⟩ : gR H3 83 m = some (ma 83) ∧ kd H3 (ma 83) = 1083 ∧ ln H3 (ma 83) = 9 := hM3.2 83 (by decide)
                    have hbr3 : BRep H3 m ma b := by
                      cases b with
                      | none => show gI H3 81 m = nI 0; rw [dI]; exact hbr2
                      | some x =>
                        obtain ⟨r, s0⟩ := x
                        obtain ⟨z1, z2, z3, z4, z5⟩ := hbr2
                        exact ⟨by rw [dI]; exact z1, z2, by rw [dI]; exact z3, z4, fun k hk => by rw [d80]; exact z5 k hk⟩
                    refine r_goto (tgt := 321) dX3_findsWay_238 (by decide) ?_
                    refine r_goto (tgt := 37) dX3_findsWay_321 (by decide) ?_
                    refine r_iload dX3_findsWay_37 rfl ?_
                    refine r_if_lt (tgt := 324) dX3_findsWay_39 (by decide) (fun h39 => ?_) (fun h39 => ?_)
                    · exact absurd h39 (nI_lt0 (by omega))
                    · refine r_aload_n (i := 0) dX3_findsWay_42 rfl rfl ?_
                      refine r_getR dX3_findsWay_43 fR_X3_29 (by first | assumption | (simp only [kd_sI, kd_sR, kd_sA, kd_sQ, kd_sL, kd_sD, ln_sI, ln_sR, ln_sA, ln_sQ, ln_sL, ln_sD, gI_sR, gI_sA, gI_sQ, gI_sL, gI_sD, gR_sI, gR_sA, gR_sQ, gR_sL, gR_sD, gA_sI, gA_sR, gA_sQ, gA_sL, gA_sD, gQ_sI, gQ_sR, gQ_sA, gQ_sL, gQ_sD, gL_sI, gL_sR, gL_sA, gL_sQ, gL_sD]; assumption) | simp [kd_sI, kd_sR, kd_sA, kd_sQ, kd_sL, kd_sD, ln_sI, ln_sR, ln_sA, ln_sQ, ln_sL, ln_sD, gI_sR, gI_sA, gI_sQ, gI_sL, gI_sD, gR_sI, gR_sA, gR_sQ, gR_sL, gR_sD, gA_sI, gA_sR, gA_sQ, gA_sL, gA_sD, gQ_sI, gQ_sR, gQ_sA, gQ_sL, gQ_sD, gL_sI, gL_sR, gL_sA, gL_sQ, gL_sD, kd_nO, kd_nA, *]) (by first | assumption | exact gI_sIs | exact gR_sRs | with_reducible rfl | (simp only [kd_sI, kd_sR, kd_sA, kd_sQ, kd_sL, kd_sD, ln_sI, ln_sR, ln_sA, ln_sQ, ln_sL, ln_sD, gI_sR, gI_sA, gI_sQ, gI_sL, gI_sD, gR_sI, gR_sA, gR_sQ, gR_sL, gR_sD, gA_sI, gA_sR, gA_sQ, gA_sL, gA_sD, gQ_sI, gQ_sR, gQ_sA, gQ_sL, gQ_sD, gL_sI, gL_sR, gL_sA, gL_sQ, gL_sD]; first | done | assumption | with_reducible rfl) | rfl) ?_
                      refine r_iload dX3_findsWay_46 rfl ?_
                      refine r_iald dX3_findsWay_48 (by first | assumption | (simp only [kd_sI, kd_sR, kd_sA, kd_sQ, kd_sL, kd_sD, ln_sI, ln_sR, ln_sA, ln_sQ, ln_sL, ln_sD, gI_sR, gI_sA, gI_sQ, gI_sL, gI_sD, gR_sI, gR_sA, gR_sQ, gR_sL, gR_sD, gA_sI, gA_sR, gA_sQ, gA_sL, gA_sD, gQ_sI, gQ_sR, gQ_sA, gQ_sL, gQ_sD, gL_sI, gL_sR, gL_sA, gL_sQ, gL_sD]; assumption) | simp [kd_sI, kd_sR, kd_sA, kd_sQ, kd_sL, kd_sD, ln_sI, ln_sR, ln_sA, ln_sQ, ln_sL, ln_sD, gI_sR, gI_sA, gI_sQ, gI_sL, gI_sD, gR_sI, gR_sA, gR_sQ, gR_sL, gR_sD, gA_sI, gA_sR, gA_sQ, gA_sL, gA_sD, gQ_sI, gQ_sR, gQ_sA, gQ_sL, gQ_sD, gL_sI, gL_sR, gL_sA, gL_sQ, gL_sD, kd_nO, kd_nA, *]) (by decide) (by first | assumption | exact gI_sIs | exact gR_sRs | with_reducible rfl | (simp only [kd_sI, kd_sR, kd_sA, kd_sQ, kd_sL, kd_sD, ln_sI, ln_sR, ln_sA, ln_sQ, ln_sL, ln_sD, gI_sR, gI_sA, gI_sQ, gI_sL, gI_sD, gR_sI, gR_sA, gR_sQ, gR_sL, gR_sD, gA_sI, gA_sR, gA_sQ, gA_sL, gA_sD, gQ_sI, gQ_sR, gQ_sA, gQ_sL, gQ_sD, gL_sI, gL_sR, gL_sA, gL_sQ, gL_sD]; first | done | assumption | with_reducible rfl) | rfl) (by first | with_reducible rfl | assumption | (simp only [nI_add, pk_mul, nI_1]; with_reducible rfl)) (by first | assumption | omega) (by first | assumption | omega) (by first | assumption | exact gI_sIs | exact gR_sRs | with_reducible rfl | (simp only [kd_sI, kd_sR, kd_sA, kd_sQ, kd_sL, kd_sD, ln_sI, ln_sR, ln_sA, ln_sQ, ln_sL, ln_sD, gI_sR, gI_sA, gI_sQ, gI_sL, gI_sD, gR_sI, gR_sA, gR_sQ, gR_sL, gR_sD, gA_sI, gA_sR, gA_sQ, gA_sL, gA_sD, gQ_sI, gQ_sR, gQ_sA, gQ_sL, gQ_sD, gL_sI, gL_sR, gL_sA, gL_sQ, gL_sD]; first | done | assumption | with_reducible rfl) | rfl) ?_
                      refine r_istore dX3_findsWay_49 (Nat.le_of_ble_eq_true rfl) (by simp only [lset]; rfl) ?_
                      refine r_iload dX3_findsWay_51 rfl ?_
                      refine r_if_lt (tgt := 83) dX3_findsWay_53 (by decide) (fun h53 => ?_) (fun h53 => ?_)
                      · refine r_iload dX3_findsWay_83 rfl ?_
                        refine r_iconst (v := nI 1) dX3_findsWay_85 (by decide) ?_
                        refine r_iadd dX3_findsWay_86 ?_
                        refine r_istore dX3_findsWay_87 (Nat.le_of_ble_eq_true rfl) (by simp only [lset]; rfl) ?_
                        rw [show (-1 : Int32) + nI 1 = nI 0 by decide]
                        refine ihf (deep + 1) o (mask ||| 2 ^ o) (row ++ [t0]) (s + g (43 + 5 * t0)) (by omega) (by omega) b4 (by rw [bm_oth mask hm o q2 to hto (Ne.symm hot)]; exact hto0) q2 b5 hlen R 0 b H3 _ _ (by omega) hU3 (by rw [d83]; exact cat) ?_ hbr3 ?_
                        · intro i hi
                          rw [d79, pk_un (by omega)]
                          rcases Nat.lt_or_ge i deep with hlt | hge
                          · rw [w79 i hlt, hgd i hlt]
                          · rw [show i = deep by omega, w79d, hgl]
                        · intro H' y7 y8 y9 k1 k2 k3 k4
                          rw [dec_1]
                          refine undo _ H' _ _ _ k1 (fun i hi => by rw [k2 i (by omega), d83]; exact w83 i hi) (by rw [k2 (deep + 1) (Nat.le_refl _), d83]; exact cat) (fun i hi => by rw [k3 i (by omega), hgd i hi]) (by rw [k3 deep (by omega), hgl]) k4 ?_
                          rw [hst, hf', Nat.add_sub_cancel, hRe]
                          rfl
                      · exact absurd h53 (by decide)
                · exact absurd h158 (by
                    intro q
                    have := (nI_eq (by omega) (by omega)).mp q
                    omega)
              refine r_iconst (v := nI 1) dX3_findsWay_139 (by decide) ?_
              refine r_icmp_ne (tgt := 149) dX3_findsWay_140 (by decide) (fun h140 => ?_) (fun h140 => ?_)
              · refine found ?_
                cases hq : mask.testBit o
                · rfl
                · rw [hq] at h140; exact absurd rfl h140
              · refine skip ?_
                have hv : mask.testBit o = true := by
                  cases hq : mask.testBit o
                  · rw [hq] at h140; exact absurd h140 (by decide)
                  · rfl
                unfold dfsStep
                rw [he]
                dsimp only
                rw [hv]
                rfl
theorem s_findsWay {H : AH} {g : Nat → Int32} {op : Nat → Bool} {fr to : Nat} (hd : 2 ≤ d) (hM : MO H m ma) (hg : gA H 1068 (ma 68) = g) (hB : GB g) (hT : GT g) (hop : ∀ t, t < nat g 40 → gA H 3078 (ma 78) t = bI (op t)) (hfr : fr < 8) (hto : to < 8) (hne : fr ≠ to)
    (hQ : ∀ H', MU m ma [79, 80, 81, 82, 83] H H' → BRep H' m ma (dfs g op to 7 fr (2 ^ fr) [] (nI 0) none) → Qr none H') : AMet G d 0 0 yX3_findsWay wX3_findsWay H [vR (some m), vI (nI fr), vI (nI to)] Qr Qx := by
  have e0 := hM.1
  obtain ⟨b1, b2, b3, b4, b5⟩ := bm_1 fr hfr
  obtain ⟨e79a, e79b, e79c⟩ : gR H 79 m = some (ma 79) ∧ kd H (ma 79) = 1079 ∧ ln H (ma 79) = 8 := hM.2 79 (by decide)
  obtain ⟨e83a, e83b, e83c⟩ : gR H 83 m = some (ma 83) ∧ kd H (ma 83) = 1083 ∧ ln H (ma 83) = 9 := hM.2 83 (by decide)
  refine AMet.of (M := mX3_findsWay) (maxL := 10) rfl rfl (Nat.le_of_ble_eq_true rfl) ?_
  show AW mX3_findsWay _ _ _ _ _ _ _ 0 [some (vR (some m)), some (vI (nI fr)), some (vI (nI to)), none, none, none, none, none, none, none] []
  refine r_aload_n (i := 0) dX3_findsWay_0 rfl rfl ?_
  refine r_iconst (v := nI 0) dX3_findsWay_1 (by decide) ?_
  refine r_putI dX3_findsWay_2 fG_X3_151 (fun _ => by first | rfl | contradiction) (by first | assumption | (simp only [kd_sI, kd_sR, kd_sA, kd_sQ, kd_sL, kd_sD, ln_sI, ln_sR, ln_sA, ln_sQ, ln_sL, ln_sD, gI_sR, gI_sA, gI_sQ, gI_sL, gI_sD, gR_sI, gR_sA, gR_sQ, gR_sL, gR_sD, gA_sI, gA_sR, gA_sQ, gA_sL, gA_sD, gQ_sI, gQ_sR, gQ_sA, gQ_sL, gQ_sD, gL_sI, gL_sR, gL_sA, gL_sQ, gL_sD]; assumption) | simp [kd_sI, kd_sR, kd_sA, kd_sQ, kd_sL, kd_sD, ln_sI, ln_sR, ln_sA, ln_sQ, ln_sL, ln_sD, gI_sR, gI_sA, gI_sQ, gI_sL, gI_sD, gR_sI, gR_sA, gR_sQ, gR_sL, gR_sD, gA_sI, gA_sR, gA_sQ, gA_sL, gA_sD, gQ_sI, gQ_sR, gQ_sA, gQ_sL, gQ_sD, gL_sI, gL_sR, gL_sA, gL_sQ, gL_sD, kd_nO, kd_nA, *]) (by first | rfl | assumption) (by first | rfl | assumption) ?_
  refine r_aload_n (i := 0) dX3_findsWay_5 rfl rfl ?_
  refine r_iconst (v := nI 0) dX3_findsWay_6 (by decide) ?_
  refine r_putI dX3_findsWay_7 fG_X3_154 (fun _ => by first | rfl | contradiction) (by first | assumption | (simp only [kd_sI, kd_sR, kd_sA, kd_sQ, kd_sL, kd_sD, ln_sI, ln_sR, ln_sA, ln_sQ, ln_sL, ln_sD, gI_sR, gI_sA, gI_sQ, gI_sL, gI_sD, gR_sI, gR_sA, gR_sQ, gR_sL, gR_sD, gA_sI, gA_sR, gA_sQ, gA_sL, gA_sD, gQ_sI, gQ_sR, gQ_sA, gQ_sL, gQ_sD, gL_sI, gL_sR, gL_sA, gL_sQ, gL_sD]; assumption) | simp [kd_sI, kd_sR, kd_sA, kd_sQ, kd_sL, kd_sD, ln_sI, ln_sR, ln_sA, ln_sQ, ln_sL, ln_sD, gI_sR, gI_sA, gI_sQ, gI_sL, gI_sD, gR_sI, gR_sA, gR_sQ, gR_sL, gR_sD, gA_sI, gA_sR, gA_sQ, gA_sL, gA_sD, gQ_sI, gQ_sR, gQ_sA, gQ_sL, gQ_sD, gL_sI, gL_sR, gL_sA, gL_sQ, gL_sD, kd_nO, kd_nA, *]) (by first | rfl | assumption) (by first | rfl | assumption) ?_
  refine r_aload_n (i := 0) dX3_findsWay_10 rfl rfl ?_
  refine r_getR dX3_findsWay_11 fR_X3_35 (by first | assumption | (simp only [kd_sI, kd_sR, kd_sA, kd_sQ, kd_sL, kd_sD, ln_sI, ln_sR, ln_sA, ln_sQ, ln_sL, ln_sD, gI_sR, gI_sA, gI_sQ, gI_sL, gI_sD, gR_sI, gR_sA, gR_sQ, gR_sL, gR_sD, gA_sI, gA_sR, gA_sQ, gA_sL, gA_sD, gQ_sI, gQ_sR, gQ_sA, gQ_sL, gQ_sD, gL_sI, gL_sR, gL_sA, gL_sQ, gL_sD]; assumption) | simp [kd_sI, kd_sR, kd_sA, kd_sQ, kd_sL, kd_sD, ln_sI, ln_sR, ln_sA, ln_sQ, ln_sL, ln_sD, gI_sR, gI_sA, gI_sQ, gI_sL, gI_sD, gR_sI, gR_sA, gR_sQ, gR_sL, gR_sD, gA_sI, gA_sR, gA_sQ, gA_sL, gA_sD, gQ_sI, gQ_sR, gQ_sA, gQ_sL, gQ_sD, gL_sI, gL_sR, gL_sA, gL_sQ, gL_sD, kd_nO, kd_nA, *]) (by first | assumption | exact gI_sIs | exact gR_sRs | with_reducible rfl | (simp only [kd_sI, kd_sR, kd_sA, kd_sQ, kd_sL, kd_sD, ln_sI, ln_sR, ln_sA, ln_sQ, ln_sL, ln_sD, gI_sR, gI_sA, gI_sQ, gI_sL, gI_sD, gR_sI, gR_sA, gR_sQ, gR_sL, gR_sD, gA_sI, gA_sR, gA_sQ, gA_sL, gA_sD, gQ_sI, gQ_sR, gQ_sA, gQ_sL, gQ_sD, gL_sI, gL_sR, gL_sA, gL_sQ, gL_sD]; first | done | assumption | with_reducible rfl) | rfl) ?_
  refine r_astore_n (i := 3) dX3_findsWay_14 rfl (Nat.le_of_ble_eq_true rfl) (by simp only [lset]; rfl) ?_
  refine r_aload_n (i := 3) dX3_findsWay_15 rfl rfl ?_
  refine r_iconst (v := nI 0) dX3_findsWay_16 (by decide) ?_
  refine r_iload_n (i := 1) dX3_findsWay_17 rfl rfl ?_
  refine r_iast dX3_findsWay_18 (by first | assumption | (simp only [kd_sI, kd_sR, kd_sA, kd_sQ, kd_sL, kd_sD, ln_sI, ln_sR, ln_sA, ln_sQ, ln_sL, ln_sD, gI_sR, gI_sA, gI_sQ, gI_sL, gI_sD, gR_sI, gR_sA, gR_sQ, gR_sL, gR_sD, gA_sI, gA_sR, gA_sQ, gA_sL, gA_sD, gQ_sI, gQ_sR, gQ_sA, gQ_sL, gQ_sD, gL_sI, gL_sR, gL_sA, gL_sQ, gL_sD]; assumption) | simp [kd_sI, kd_sR, kd_sA, kd_sQ, kd_sL, kd_sD, ln_sI, ln_sR, ln_sA, ln_sQ, ln_sL, ln_sD, gI_sR, gI_sA, gI_sQ, gI_sL, gI_sD, gR_sI, gR_sA, gR_sQ, gR_sL, gR_sD, gA_sI, gA_sR, gA_sQ, gA_sL, gA_sD, gQ_sI, gQ_sR, gQ_sA, gQ_sL, gQ_sD, gL_sI, gL_sR, gL_sA, gL_sQ, gL_sD, kd_nO, kd_nA, *]) (by decide) (by first | assumption | exact gI_sIs | exact gR_sRs | with_reducible rfl | (simp only [kd_sI, kd_sR, kd_sA, kd_sQ, kd_sL, kd_sD, ln_sI, ln_sR, ln_sA, ln_sQ, ln_sL, ln_sD, gI_sR, gI_sA, gI_sQ, gI_sL, gI_sD, gR_sI, gR_sA, gR_sQ, gR_sL, gR_sD, gA_sI, gA_sR, gA_sQ, gA_sL, gA_sD, gQ_sI, gQ_sR, gQ_sA, gQ_sL, gQ_sD, gL_sI, gL_sR, gL_sA, gL_sQ, gL_sD]; first | done | assumption | with_reducible rfl) | rfl) (by first | with_reducible rfl | assumption | (simp only [nI_add, pk_mul, nI_1]; with_reducible rfl)) (by first | assumption | omega) (by first | assumption | omega) ?_
  refine r_iconst (v := nI 0) dX3_findsWay_19 (by decide) ?_
  refine r_istore dX3_findsWay_20 (Nat.le_of_ble_eq_true rfl) (by simp only [lset]; rfl) ?_
  refine r_iconst (v := nI 1) dX3_findsWay_22 (by decide) ?_
  refine r_iload_n (i := 1) dX3_findsWay_23 rfl rfl ?_
  refine r_ishl dX3_findsWay_24 ?_
  rw [b1]
  refine r_istore dX3_findsWay_25 (Nat.le_of_ble_eq_true rfl) (by simp only [lset]; rfl) ?_
  refine r_iconst (v := nI 0) dX3_findsWay_27 (by decide) ?_
  refine r_istore dX3_findsWay_28 (Nat.le_of_ble_eq_true rfl) (by simp only [lset]; rfl) ?_
  refine r_aload_n (i := 0) dX3_findsWay_30 rfl rfl ?_
  refine r_getR dX3_findsWay_31 fR_X3_29 (by first | assumption | (simp only [kd_sI, kd_sR, kd_sA, kd_sQ, kd_sL, kd_sD, ln_sI, ln_sR, ln_sA, ln_sQ, ln_sL, ln_sD, gI_sR, gI_sA, gI_sQ, gI_sL, gI_sD, gR_sI, gR_sA, gR_sQ, gR_sL, gR_sD, gA_sI, gA_sR, gA_sQ, gA_sL, gA_sD, gQ_sI, gQ_sR, gQ_sA, gQ_sL, gQ_sD, gL_sI, gL_sR, gL_sA, gL_sQ, gL_sD]; assumption) | simp [kd_sI, kd_sR, kd_sA, kd_sQ, kd_sL, kd_sD, ln_sI, ln_sR, ln_sA, ln_sQ, ln_sL, ln_sD, gI_sR, gI_sA, gI_sQ, gI_sL, gI_sD, gR_sI, gR_sA, gR_sQ, gR_sL, gR_sD, gA_sI, gA_sR, gA_sQ, gA_sL, gA_sD, gQ_sI, gQ_sR, gQ_sA, gQ_sL, gQ_sD, gL_sI, gL_sR, gL_sA, gL_sQ, gL_sD, kd_nO, kd_nA, *]) (by first | assumption | exact gI_sIs | exact gR_sRs | with_reducible rfl | (simp only [kd_sI, kd_sR, kd_sA, kd_sQ, kd_sL, kd_sD, ln_sI, ln_sR, ln_sA, ln_sQ, ln_sL, ln_sD, gI_sR, gI_sA, gI_sQ, gI_sL, gI_sD, gR_sI, gR_sA, gR_sQ, gR_sL, gR_sD, gA_sI, gA_sR, gA_sQ, gA_sL, gA_sD, gQ_sI, gQ_sR, gQ_sA, gQ_sL, gQ_sD, gL_sI, gL_sR, gL_sA, gL_sQ, gL_sD]; first | done | assumption | with_reducible rfl) | rfl) ?_
  refine r_iconst (v := nI 0) dX3_findsWay_34 (by decide) ?_
  refine r_iconst (v := -1) dX3_findsWay_35 (by decide) ?_
  refine r_iast dX3_findsWay_36 (by first | assumption | (simp only [kd_sI, kd_sR, kd_sA, kd_sQ, kd_sL, kd_sD, ln_sI, ln_sR, ln_sA, ln_sQ, ln_sL, ln_sD, gI_sR, gI_sA, gI_sQ, gI_sL, gI_sD, gR_sI, gR_sA, gR_sQ, gR_sL, gR_sD, gA_sI, gA_sR, gA_sQ, gA_sL, gA_sD, gQ_sI, gQ_sR, gQ_sA, gQ_sL, gQ_sD, gL_sI, gL_sR, gL_sA, gL_sQ, gL_sD]; assumption) | simp [kd_sI, kd_sR, kd_sA, kd_sQ, kd_sL, kd_sD, ln_sI, ln_sR, ln_sA, ln_sQ, ln_sL, ln_sD, gI_sR, gI_sA, gI_sQ, gI_sL, gI_sD, gR_sI, gR_sA, gR_sQ, gR_sL, gR_sD, gA_sI, gA_sR, gA_sQ, gA_sL, gA_sD, gQ_sI, gQ_sR, gQ_sA, gQ_sL, gQ_sD, gL_sI, gL_sR, gL_sA, gL_sQ, gL_sD, kd_nO, kd_nA, *]) (by decide) (by first | assumption | exact gI_sIs | exact gR_sRs | with_reducible rfl | (simp only [kd_sI, kd_sR, kd_sA, kd_sQ, kd_sL, kd_sD, ln_sI, ln_sR, ln_sA, ln_sQ, ln_sL, ln_sD, gI_sR, gI_sA, gI_sQ, gI_sL, gI_sD, gR_sI, gR_sA, gR_sQ, gR_sL, gR_sD, gA_sI, gA_sR, gA_sQ, gA_sL, gA_sD, gQ_sI, gQ_sR, gQ_sA, gQ_sL, gQ_sD, gL_sI, gL_sR, gL_sA, gL_sQ, gL_sD]; first | done | assumption | with_reducible rfl) | rfl) (by first | with_reducible rfl | assumption | (simp only [nI_add, pk_mul, nI_1]; with_reducible rfl)) (by first | assumption | omega) (by first | assumption | omega) ?_
  refine AW.name (fun H1 hH1 => ?_)
  have hU1 : MU m ma [79, 80, 81, 82, 83] H H1 := by
    rw [hH1]
    exact (((MU.rf.sI (f := 81) (by decide) (by decide) (by decide)).sI (f := 82) (by decide) (by decide) (by decide)).sA (f := 83) (Or.inl (by decide)) (by decide) (by decide)).sA (f := 79) (Or.inl (by decide)) (by decide) (by decide)
  have c83 : gA H1 1083 (ma 83) 0 = nI fr := by rw [hH1]; exact (congrFun gA_sAs 0).trans pk_us
  have c79 : gA H1 1079 (ma 79) 0 = -1 := by rw [hH1]; exact (congrFun gA_sAs 0).trans pk_us
  have c81 : gI H1 81 m = nI 0 := by rw [hH1]; show gI (sI (sI H 81 m (nI 0)) 82 m (nI 0)) 81 m = nI 0; rw [gI_sI, if_neg (by simp), gI_sIs]
  have hM1 := hM.mf hU1.1
  have e01 := hM1.1
  obtain ⟨e79a_1, e79b_1, e79c_1⟩ : gR H1 79 m = some (ma 79) ∧ kd H1 (ma 79) = 1079 ∧ ln H1 (ma 79) = 8 := hM1.2 79 (by decide)
  obtain ⟨e83a_1, e83b_1, e83c_1⟩ : gR H1 83 m = some (ma 83) ∧ kd H1 (ma 83) = 1083 ∧ ln H1 (ma 83) = 9 := hM1.2 83 (by decide)
  refine r_iload dX3_findsWay_37 rfl ?_
  refine r_if_lt (tgt := 324) dX3_findsWay_39 (by decide) (fun h39 => ?_) (fun h39 => ?_)
  · exact absurd h39 (by decide)
  · refine r_aload_n (i := 0) dX3_findsWay_42 rfl rfl ?_
    refine r_getR dX3_findsWay_43 fR_X3_29 (by first | assumption | (simp only [kd_sI, kd_sR, kd_sA, kd_sQ, kd_sL, kd_sD, ln_sI, ln_sR, ln_sA, ln_sQ, ln_sL, ln_sD, gI_sR, gI_sA, gI_sQ, gI_sL, gI_sD, gR_sI, gR_sA, gR_sQ, gR_sL, gR_sD, gA_sI, gA_sR, gA_sQ, gA_sL, gA_sD, gQ_sI, gQ_sR, gQ_sA, gQ_sL, gQ_sD, gL_sI, gL_sR, gL_sA, gL_sQ, gL_sD]; assumption) | simp [kd_sI, kd_sR, kd_sA, kd_sQ, kd_sL, kd_sD, ln_sI, ln_sR, ln_sA, ln_sQ, ln_sL, ln_sD, gI_sR, gI_sA, gI_sQ, gI_sL, gI_sD, gR_sI, gR_sA, gR_sQ, gR_sL, gR_sD, gA_sI, gA_sR, gA_sQ, gA_sL, gA_sD, gQ_sI, gQ_sR, gQ_sA, gQ_sL, gQ_sD, gL_sI, gL_sR, gL_sA, gL_sQ, gL_sD, kd_nO, kd_nA, *]) (by first | assumption | exact gI_sIs | exact gR_sRs | with_reducible rfl | (simp only [kd_sI, kd_sR, kd_sA, kd_sQ, kd_sL, kd_sD, ln_sI, ln_sR, ln_sA, ln_sQ, ln_sL, ln_sD, gI_sR, gI_sA, gI_sQ, gI_sL, gI_sD, gR_sI, gR_sA, gR_sQ, gR_sL, gR_sD, gA_sI, gA_sR, gA_sQ, gA_sL, gA_sD, gQ_sI, gQ_sR, gQ_sA, gQ_sL, gQ_sD, gL_sI, gL_sR, gL_sA, gL_sQ, gL_sD]; first | done | assumption | with_reducible rfl) | rfl) ?_
    refine r_iload dX3_findsWay_46 rfl ?_
    refine r_iald dX3_findsWay_48 (by first | assumption | (simp only [kd_sI, kd_sR, kd_sA, kd_sQ, kd_sL, kd_sD, ln_sI, ln_sR, ln_sA, ln_sQ, ln_sL, ln_sD, gI_sR, gI_sA, gI_sQ, gI_sL, gI_sD, gR_sI, gR_sA, gR_sQ, gR_sL, gR_sD, gA_sI, gA_sR, gA_sQ, gA_sL, gA_sD, gQ_sI, gQ_sR, gQ_sA, gQ_sL, gQ_sD, gL_sI, gL_sR, gL_sA, gL_sQ, gL_sD]; assumption) | simp [kd_sI, kd_sR, kd_sA, kd_sQ, kd_sL, kd_sD, ln_sI, ln_sR, ln_sA, ln_sQ, ln_sL, ln_sD, gI_sR, gI_sA, gI_sQ, gI_sL, gI_sD, gR_sI, gR_sA, gR_sQ, gR_sL, gR_sD, gA_sI, gA_sR, gA_sQ, gA_sL, gA_sD, gQ_sI, gQ_sR, gQ_sA, gQ_sL, gQ_sD, gL_sI, gL_sR, gL_sA, gL_sQ, gL_sD, kd_nO, kd_nA, *]) (by decide) (by first | assumption | exact gI_sIs | exact gR_sRs | with_reducible rfl | (simp only [kd_sI, kd_sR, kd_sA, kd_sQ, kd_sL, kd_sD, ln_sI, ln_sR, ln_sA, ln_sQ, ln_sL, ln_sD, gI_sR, gI_sA, gI_sQ, gI_sL, gI_sD, gR_sI, gR_sA, gR_sQ, gR_sL, gR_sD, gA_sI, gA_sR, gA_sQ, gA_sL, gA_sD, gQ_sI, gQ_sR, gQ_sA, gQ_sL, gQ_sD, gL_sI, gL_sR, gL_sA, gL_sQ, gL_sD]; first | done | assumption | with_reducible rfl) | rfl) (by first | with_reducible rfl | assumption | (simp only [nI_add, pk_mul, nI_1]; with_reducible rfl)) (by first | assumption | omega) (by first | assumption | omega) (by first | assumption | exact gI_sIs | exact gR_sRs | with_reducible rfl | (simp only [kd_sI, kd_sR, kd_sA, kd_sQ, kd_sL, kd_sD, ln_sI, ln_sR, ln_sA, ln_sQ, ln_sL, ln_sD, gI_sR, gI_sA, gI_sQ, gI_sL, gI_sD, gR_sI, gR_sA, gR_sQ, gR_sL, gR_sD, gA_sI, gA_sR, gA_sQ, gA_sL, gA_sD, gQ_sI, gQ_sR, gQ_sA, gQ_sL, gQ_sD, gL_sI, gL_sR, gL_sA, gL_sQ, gL_sD]; first | done | assumption | with_reducible rfl) | rfl) ?_
    refine r_istore dX3_findsWay_49 (Nat.le_of_ble_eq_true rfl) (by simp only [lset]; rfl) ?_
    refine r_iload dX3_findsWay_51 rfl ?_
    refine r_if_lt (tgt := 83) dX3_findsWay_53 (by decide) (fun h53 => ?_) (fun h53 => ?_)
    · refine r_iload dX3_findsWay_83 rfl ?_
      refine r_iconst (v := nI 1) dX3_findsWay_85 (by decide) ?_
      refine r_iadd dX3_findsWay_86 ?_
      refine r_istore dX3_findsWay_87 (Nat.le_of_ble_eq_true rfl) (by simp only [lset]; rfl) ?_
      rw [show (-1 : Int32) + nI 1 = nI 0 by decide]
      refine way_mo hd hM hg hB hT hop hto 7 0 fr (2 ^ fr) [] (nI 0) b2 rfl b3 (b5 to hto (Ne.symm hne)) hfr b4 rfl (nat g 40) 0 none H1 _ _ (by omega) hU1 c83 (fun i hi => absurd hi (by omega)) c81 ?_
      intro H' y7 y8 y9 k1 k2 k3 k4
      rw [show nI 0 + Int32.ofInt (-1) = -1 by decide]
      refine r_iload dX3_findsWay_37 rfl ?_
      refine r_if_lt (tgt := 324) dX3_findsWay_39 (by decide) (fun h39 => ?_) (fun h39 => ?_)
      · refine r_return dX3_findsWay_324 rfl ?_
        exact hQ H' k1 k4
      · exact absurd (by decide) h39
    · exact absurd (by decide) h53
/-- opens: which trays are gone through -/
def opB (g : Nat → Int32) (ty : Option Nat) (t : Nat) : Bool := match ty with
  | none => true
  | some ty => (q_place g t ty).isSome
theorem oI_neg1 : oI none < 0 := by decide
theorem s_opens {H : AH} {ty : Option Nat} (hd : 5 ≤ d) (hM : MO H m ma) (hB : GB (gA H 1068 (ma 68))) (hty : ∀ y, ty = some y → y < nat (gA H 1068 (ma 68)) 3)
    (hQ : ∀ H', MU m ma [78, 2078] H H' → (∀ t, t < nat (gA H 1068 (ma 68)) 40 → gA H' 3078 (ma 78) t = bI (opB (gA H 1068 (ma 68)) ty t)) → Qr none H') : AMet G d 0 0 yX3_opens wX3_opens H [vR (some m), vI (oI ty)] Qr Qx := by
  have hR := hB.2.1
  obtain ⟨R, hRe⟩ := ex_val (nat (gA H 1068 (ma 68)) 40)
  obtain ⟨g, hg⟩ := ex_val (gA H 1068 (ma 68))
  rw [← hg] at hB hty hQ hR hRe
  rw [← hRe] at hQ
  have hR1 : g 40 = nI R ∧ R < 13 := by rw [hRe]; exact hR
  obtain ⟨hR1, hR2⟩ := hR1
  refine AMet.of (M := mX3_opens) (maxL := 3) rfl rfl (Nat.le_of_ble_eq_true rfl) ?_
  show AW mX3_opens _ _ _ _ _ _ _ 0 [some (vR (some m)), some (vI (oI ty)), none] []
  refine r_iconst (v := nI 0) dX3_opens_0 (by decide) ?_
  refine r_istore_n (i := 2) dX3_opens_1 rfl (Nat.le_of_ble_eq_true rfl) (by simp only [lset]; rfl) ?_
  have loop : ∀ (k i : Nat) (H1 : AH), i + k = R → MU m ma [78, 2078] H H1 → (∀ t, t < i → gA H1 3078 (ma 78) t = bI (opB g ty t)) → AW mX3_opens G d Qr Qx 0 0 H1 2 [some (vR (some m)), some (vI (oI ty)), some (vI (nI i))] [] := by
    intro k
    induction k with
    | zero =>
      intro i H1 hi hU h1
      have hM1 := hM.mf hU.1
      have e01 := hM1.1
      obtain ⟨e68a, e68b, e68c⟩ : gR H1 68 m = some (ma 68) ∧ kd H1 (ma 68) = 1068 ∧ ln H1 (ma 68) = 385 := hM1.2 68 (by decide)
      have hg1 : gA H1 1068 (ma 68) 40 = nI R := by rw [hU.g68 (by decide), ← hg]; exact hR1
      refine r_iload_n (i := 2) dX3_opens_2 rfl rfl ?_
      refine r_aload_n (i := 0) dX3_opens_3 rfl rfl ?_
      refine r_getR dX3_opens_4 fR_X3_7 (by first | assumption | (simp only [kd_sI, kd_sR, kd_sA, kd_sQ, kd_sL, kd_sD, ln_sI, ln_sR, ln_sA, ln_sQ, ln_sL, ln_sD, gI_sR, gI_sA, gI_sQ, gI_sL, gI_sD, gR_sI, gR_sA, gR_sQ, gR_sL, gR_sD, gA_sI, gA_sR, gA_sQ, gA_sL, gA_sD, gQ_sI, gQ_sR, gQ_sA, gQ_sL, gQ_sD, gL_sI, gL_sR, gL_sA, gL_sQ, gL_sD]; assumption) | simp [kd_sI, kd_sR, kd_sA, kd_sQ, kd_sL, kd_sD, ln_sI, ln_sR, ln_sA, ln_sQ, ln_sL, ln_sD, gI_sR, gI_sA, gI_sQ, gI_sL, gI_sD, gR_sI, gR_sA, gR_sQ, gR_sL, gR_sD, gA_sI, gA_sR, gA_sQ, gA_sL, gA_sD, gQ_sI, gQ_sR, gQ_sA, gQ_sL, gQ_sD, gL_sI, gL_sR, gL_sA, gL_sQ, gL_sD, kd_nO, kd_nA, *]) (by first | assumption | exact gI_sIs | exact gR_sRs | with_reducible rfl | (simp only [kd_sI, kd_sR, kd_sA, kd_sQ, kd_sL, kd_sD, ln_sI, ln_sR, ln_sA, ln_sQ, ln_sL, ln_sD, gI_sR, gI_sA, gI_sQ, gI_sL, gI_sD, gR_sI, gR_sA, gR_sQ, gR_sL, gR_sD, gA_sI, gA_sR, gA_sQ, gA_sL, gA_sD, gQ_sI, gQ_sR, gQ_sA, gQ_sL, gQ_sD, gL_sI, gL_sR, gL_sA, gL_sQ, gL_sD]; first | done | assumption | with_reducible rfl) | rfl) ?_
      refine r_bipush (v := nI 40) dX3_opens_7 (by decide) ?_
      refine r_iald dX3_opens_9 (by first | assumption | (simp only [kd_sI, kd_sR, kd_sA, kd_sQ, kd_sL, kd_sD, ln_sI, ln_sR, ln_sA, ln_sQ, ln_sL, ln_sD, gI_sR, gI_sA, gI_sQ, gI_sL, gI_sD, gR_sI, gR_sA, gR_sQ, gR_sL, gR_sD, gA_sI, gA_sR, gA_sQ, gA_sL, gA_sD, gQ_sI, gQ_sR, gQ_sA, gQ_sL, gQ_sD, gL_sI, gL_sR, gL_sA, gL_sQ, gL_sD]; assumption) | simp [kd_sI, kd_sR, kd_sA, kd_sQ, kd_sL, kd_sD, ln_sI, ln_sR, ln_sA, ln_sQ, ln_sL, ln_sD, gI_sR, gI_sA, gI_sQ, gI_sL, gI_sD, gR_sI, gR_sA, gR_sQ, gR_sL, gR_sD, gA_sI, gA_sR, gA_sQ, gA_sL, gA_sD, gQ_sI, gQ_sR, gQ_sA, gQ_sL, gQ_sD, gL_sI, gL_sR, gL_sA, gL_sQ, gL_sD, kd_nO, kd_nA, *]) (by decide) (by first | assumption | exact gI_sIs | exact gR_sRs | with_reducible rfl | (simp only [kd_sI, kd_sR, kd_sA, kd_sQ, kd_sL, kd_sD, ln_sI, ln_sR, ln_sA, ln_sQ, ln_sL, ln_sD, gI_sR, gI_sA, gI_sQ, gI_sL, gI_sD, gR_sI, gR_sA, gR_sQ, gR_sL, gR_sD, gA_sI, gA_sR, gA_sQ, gA_sL, gA_sD, gQ_sI, gQ_sR, gQ_sA, gQ_sL, gQ_sD, gL_sI, gL_sR, gL_sA, gL_sQ, gL_sD]; first | done | assumption | with_reducible rfl) | rfl) (by first | with_reducible rfl | assumption | (simp only [nI_add, pk_mul, nI_1]; with_reducible rfl)) (by first | assumption | omega) (by first | assumption | omega) (by first | assumption | exact gI_sIs | exact gR_sRs | with_reducible rfl | (simp only [kd_sI, kd_sR, kd_sA, kd_sQ, kd_sL, kd_sD, ln_sI, ln_sR, ln_sA, ln_sQ, ln_sL, ln_sD, gI_sR, gI_sA, gI_sQ, gI_sL, gI_sD, gR_sI, gR_sA, gR_sQ, gR_sL, gR_sD, gA_sI, gA_sR, gA_sQ, gA_sL, gA_sD, gQ_sI, gQ_sR, gQ_sA, gQ_sL, gQ_sD, gL_sI, gL_sR, gL_sA, gL_sQ, gL_sD]; first | done | assumption | with_reducible rfl) | rfl) ?_
      refine r_icmp_ge (tgt := 43) dX3_opens_10 (by decide) (fun h10 => ?_) (fun h10 => ?_)
      · refine r_return dX3_opens_43 rfl ?_
        exact hQ H1 hU (fun t ht => h1 t (by omega))
      · exact absurd (nI_le (by omega) (by omega)) h10
    | succ k ih =>
      intro i H1 hi hU h1
      have hM1 := hM.mf hU.1
      have e01 := hM1.1
      obtain ⟨e68a, e68b, e68c⟩ : gR H1 68 m = some (ma 68) ∧ kd H1 (ma 68) = 1068 ∧ ln H1 (ma 68) = 385 := hM1.2 68 (by decide)
      obtain ⟨e78a, e78b, e78c⟩ : gR H1 78 m = some (ma 78) ∧ kd H1 (ma 78) = 3078 ∧ ln H1 (ma 78) = 12 := hM1.2 78 (by decide)
      have hgg : gA H1 1068 (ma 68) = g := by rw [hU.g68 (by decide), ← hg]
      have hg1 : gA H1 1068 (ma 68) 40 = nI R := by rw [hgg]; exact hR1
      have put : ∀ v : Int32, vp_nar .boolean v = bI (opB g ty i) → AW mX3_opens G d Qr Qx 0 0 H1 36 [some (vR (some m)), some (vI (oI ty)), some (vI (nI i))] [vI v, vI (nI i), vR (some (ma 78))] := by
        intro v hv
        refine r_zast dX3_opens_36 (by first | assumption | (simp only [kd_sI, kd_sR, kd_sA, kd_sQ, kd_sL, kd_sD, ln_sI, ln_sR, ln_sA, ln_sQ, ln_sL, ln_sD, gI_sR, gI_sA, gI_sQ, gI_sL, gI_sD, gR_sI, gR_sA, gR_sQ, gR_sL, gR_sD, gA_sI, gA_sR, gA_sQ, gA_sL, gA_sD, gQ_sI, gQ_sR, gQ_sA, gQ_sL, gQ_sD, gL_sI, gL_sR, gL_sA, gL_sQ, gL_sD]; assumption) | simp [kd_sI, kd_sR, kd_sA, kd_sQ, kd_sL, kd_sD, ln_sI, ln_sR, ln_sA, ln_sQ, ln_sL, ln_sD, gI_sR, gI_sA, gI_sQ, gI_sL, gI_sD, gR_sI, gR_sA, gR_sQ, gR_sL, gR_sD, gA_sI, gA_sR, gA_sQ, gA_sL, gA_sD, gQ_sI, gQ_sR, gQ_sA, gQ_sL, gQ_sD, gL_sI, gL_sR, gL_sA, gL_sQ, gL_sD, kd_nO, kd_nA, *]) (by decide) (by first | assumption | exact gI_sIs | exact gR_sRs | with_reducible rfl | (simp only [kd_sI, kd_sR, kd_sA, kd_sQ, kd_sL, kd_sD, ln_sI, ln_sR, ln_sA, ln_sQ, ln_sL, ln_sD, gI_sR, gI_sA, gI_sQ, gI_sL, gI_sD, gR_sI, gR_sA, gR_sQ, gR_sL, gR_sD, gA_sI, gA_sR, gA_sQ, gA_sL, gA_sD, gQ_sI, gQ_sR, gQ_sA, gQ_sL, gQ_sD, gL_sI, gL_sR, gL_sA, gL_sQ, gL_sD]; first | done | assumption | with_reducible rfl) | rfl) (by first | with_reducible rfl | assumption | (simp only [nI_add, pk_mul, nI_1]; with_reducible rfl)) (by first | assumption | omega) (by first | assumption | omega) ?_
        refine AW.name (fun H2 hH2 => ?_)
        refine r_iinc dX3_opens_37 rfl (by first | exact nI_1 _ | rfl) (by simp only [lset]; rfl) ?_
        refine r_goto (tgt := 2) dX3_opens_40 (by decide) ?_
        refine ih (i + 1) H2 (by omega) (by rw [hH2]; exact hU.sA (f := 78) (Or.inr (by decide)) (by decide) (by decide)) ?_
        have c : gA H2 3078 (ma 78) = upd (gA H1 3078 (ma 78)) i (vp_nar .boolean v) := by rw [hH2]; exact gA_sAs
        intro t ht
        rw [c]
        by_cases hti : t = i
        · subst hti
          rw [pk_us, hv]
        · rw [pk_un hti]
          exact h1 t (by omega)
      refine r_iload_n (i := 2) dX3_opens_2 rfl rfl ?_
      refine r_aload_n (i := 0) dX3_opens_3 rfl rfl ?_
      refine r_getR dX3_opens_4 fR_X3_7 (by first | assumption | (simp only [kd_sI, kd_sR, kd_sA, kd_sQ, kd_sL, kd_sD, ln_sI, ln_sR, ln_sA, ln_sQ, ln_sL, ln_sD, gI_sR, gI_sA, gI_sQ, gI_sL, gI_sD, gR_sI, gR_sA, gR_sQ, gR_sL, gR_sD, gA_sI, gA_sR, gA_sQ, gA_sL, gA_sD, gQ_sI, gQ_sR, gQ_sA, gQ_sL, gQ_sD, gL_sI, gL_sR, gL_sA, gL_sQ, gL_sD]; assumption) | simp [kd_sI, kd_sR, kd_sA, kd_sQ, kd_sL, kd_sD, ln_sI, ln_sR, ln_sA, ln_sQ, ln_sL, ln_sD, gI_sR, gI_sA, gI_sQ, gI_sL, gI_sD, gR_sI, gR_sA, gR_sQ, gR_sL, gR_sD, gA_sI, gA_sR, gA_sQ, gA_sL, gA_sD, gQ_sI, gQ_sR, gQ_sA, gQ_sL, gQ_sD, gL_sI, gL_sR, gL_sA, gL_sQ, gL_sD, kd_nO, kd_nA, *]) (by first | assumption | exact gI_sIs | exact gR_sRs | with_reducible rfl | (simp only [kd_sI, kd_sR, kd_sA, kd_sQ, kd_sL, kd_sD, ln_sI, ln_sR, ln_sA, ln_sQ, ln_sL, ln_sD, gI_sR, gI_sA, gI_sQ, gI_sL, gI_sD, gR_sI, gR_sA, gR_sQ, gR_sL, gR_sD, gA_sI, gA_sR, gA_sQ, gA_sL, gA_sD, gQ_sI, gQ_sR, gQ_sA, gQ_sL, gQ_sD, gL_sI, gL_sR, gL_sA, gL_sQ, gL_sD]; first | done | assumption | with_reducible rfl) | rfl) ?_
      refine r_bipush (v := nI 40) dX3_opens_7 (by decide) ?_
      refine r_iald dX3_opens_9 (by first | assumption | (simp only [kd_sI, kd_sR, kd_sA, kd_sQ, kd_sL, kd_sD, ln_sI, ln_sR, ln_sA, ln_sQ, ln_sL, ln_sD, gI_sR, gI_sA, gI_sQ, gI_sL, gI_sD, gR_sI, gR_sA, gR_sQ, gR_sL, gR_sD, gA_sI, gA_sR, gA_sQ, gA_sL, gA_sD, gQ_sI, gQ_sR, gQ_sA, gQ_sL, gQ_sD, gL_sI, gL_sR, gL_sA, gL_sQ, gL_sD]; assumption) | simp [kd_sI, kd_sR, kd_sA, kd_sQ, kd_sL, kd_sD, ln_sI, ln_sR, ln_sA, ln_sQ, ln_sL, ln_sD, gI_sR, gI_sA, gI_sQ, gI_sL, gI_sD, gR_sI, gR_sA, gR_sQ, gR_sL, gR_sD, gA_sI, gA_sR, gA_sQ, gA_sL, gA_sD, gQ_sI, gQ_sR, gQ_sA, gQ_sL, gQ_sD, gL_sI, gL_sR, gL_sA, gL_sQ, gL_sD, kd_nO, kd_nA, *]) (by decide) (by first | assumption | exact gI_sIs | exact gR_sRs | with_reducible rfl | (simp only [kd_sI, kd_sR, kd_sA, kd_sQ, kd_sL, kd_sD, ln_sI, ln_sR, ln_sA, ln_sQ, ln_sL, ln_sD, gI_sR, gI_sA, gI_sQ, gI_sL, gI_sD, gR_sI, gR_sA, gR_sQ, gR_sL, gR_sD, gA_sI, gA_sR, gA_sQ, gA_sL, gA_sD, gQ_sI, gQ_sR, gQ_sA, gQ_sL, gQ_sD, gL_sI, gL_sR, gL_sA, gL_sQ, gL_sD]; first | done | assumption | with_reducible rfl) | rfl) (by first | with_reducible rfl | assumption | (simp only [nI_add, pk_mul, nI_1]; with_reducible rfl)) (by first | assumption | omega) (by first | assumption | omega) (by first | assumption | exact gI_sIs | exact gR_sRs | with_reducible rfl | (simp only [kd_sI, kd_sR, kd_sA, kd_sQ, kd_sL, kd_sD, ln_sI, ln_sR, ln_sA, ln_sQ, ln_sL, ln_sD, gI_sR, gI_sA, gI_sQ, gI_sL, gI_sD, gR_sI, gR_sA, gR_sQ, gR_sL, gR_sD, gA_sI, gA_sR, gA_sQ, gA_sL, gA_sD, gQ_sI, gQ_sR, gQ_sA, gQ_sL, gQ_sD, gL_sI, gL_sR, gL_sA, gL_sQ, gL_sD]; first | done | assumption | with_reducible rfl) | rfl) ?_
      refine r_icmp_ge (tgt := 43) dX3_opens_10 (by decide) (fun h10 => ?_) (fun h10 => ?_)
      · exact absurd h10 (nI_ge (by omega) (by omega))
      · cases ty with
        | none =>
          refine r_aload_n (i := 0) dX3_opens_13 rfl rfl ?_
          refine r_getR dX3_opens_14 fR_X3_25 (by first | assumption | (simp only [kd_sI, kd_sR, kd_sA, kd_sQ, kd_sL, kd_sD, ln_sI, ln_sR, ln_sA, ln_sQ, ln_sL, ln_sD, gI_sR, gI_sA, gI_sQ, gI_sL, gI_sD, gR_sI, gR_sA, gR_sQ, gR_sL, gR_sD, gA_sI, gA_sR, gA_sQ, gA_sL, gA_sD, gQ_sI, gQ_sR, gQ_sA, gQ_sL, gQ_sD, gL_sI, gL_sR, gL_sA, gL_sQ, gL_sD]; assumption) | simp [kd_sI, kd_sR, kd_sA, kd_sQ, kd_sL, kd_sD, ln_sI, ln_sR, ln_sA, ln_sQ, ln_sL, ln_sD, gI_sR, gI_sA, gI_sQ, gI_sL, gI_sD, gR_sI, gR_sA, gR_sQ, gR_sL, gR_sD, gA_sI, gA_sR, gA_sQ, gA_sL, gA_sD, gQ_sI, gQ_sR, gQ_sA, gQ_sL, gQ_sD, gL_sI, gL_sR, gL_sA, gL_sQ, gL_sD, kd_nO, kd_nA, *]) (by first | assumption | exact gI_sIs | exact gR_sRs | with_reducible rfl | (simp only [kd_sI, kd_sR, kd_sA, kd_sQ, kd_sL, kd_sD, ln_sI, ln_sR, ln_sA, ln_sQ, ln_sL, ln_sD, gI_sR, gI_sA, gI_sQ, gI_sL, gI_sD, gR_sI, gR_sA, gR_sQ, gR_sL, gR_sD, gA_sI, gA_sR, gA_sQ, gA_sL, gA_sD, gQ_sI, gQ_sR, gQ_sA, gQ_sL, gQ_sD, gL_sI, gL_sR, gL_sA, gL_sQ, gL_sD]; first | done | assumption | with_reducible rfl) | rfl) ?_
          refine r_iload_n (i := 2) dX3_opens_17 rfl rfl ?_
          refine r_iload_n (i := 1) dX3_opens_18 rfl rfl ?_
          refine r_if_lt (tgt := 31) dX3_opens_19 (by decide) (fun h19 => ?_) (fun h19 => ?_)
          · refine r_iconst (v := nI 1) dX3_opens_31 (by decide) ?_
            refine r_goto (tgt := 36) dX3_opens_32 (by decide) ?_
            exact put _ (show vp_nar .boolean (nI 1) = nI 1 by decide)
          · exact absurd oI_neg1 h19
        | some y =>
          have hy := hty y rfl
          have hT6 := hB.1.2
          simp only [oI]
          refine r_aload_n (i := 0) dX3_opens_13 rfl rfl ?_
          refine r_getR dX3_opens_14 fR_X3_25 (by first | assumption | (simp only [kd_sI, kd_sR, kd_sA, kd_sQ, kd_sL, kd_sD, ln_sI, ln_sR, ln_sA, ln_sQ, ln_sL, ln_sD, gI_sR, gI_sA, gI_sQ, gI_sL, gI_sD, gR_sI, gR_sA, gR_sQ, gR_sL, gR_sD, gA_sI, gA_sR, gA_sQ, gA_sL, gA_sD, gQ_sI, gQ_sR, gQ_sA, gQ_sL, gQ_sD, gL_sI, gL_sR, gL_sA, gL_sQ, gL_sD]; assumption) | simp [kd_sI, kd_sR, kd_sA, kd_sQ, kd_sL, kd_sD, ln_sI, ln_sR, ln_sA, ln_sQ, ln_sL, ln_sD, gI_sR, gI_sA, gI_sQ, gI_sL, gI_sD, gR_sI, gR_sA, gR_sQ, gR_sL, gR_sD, gA_sI, gA_sR, gA_sQ, gA_sL, gA_sD, gQ_sI, gQ_sR, gQ_sA, gQ_sL, gQ_sD, gL_sI, gL_sR, gL_sA, gL_sQ, gL_sD, kd_nO, kd_nA, *]) (by first | assumption | exact gI_sIs | exact gR_sRs | with_reducible rfl | (simp only [kd_sI, kd_sR, kd_sA, kd_sQ, kd_sL, kd_sD, ln_sI, ln_sR, ln_sA, ln_sQ, ln_sL, ln_sD, gI_sR, gI_sA, gI_sQ, gI_sL, gI_sD, gR_sI, gR_sA, gR_sQ, gR_sL, gR_sD, gA_sI, gA_sR, gA_sQ, gA_sL, gA_sD, gQ_sI, gQ_sR, gQ_sA, gQ_sL, gQ_sD, gL_sI, gL_sR, gL_sA, gL_sQ, gL_sD]; first | done | assumption | with_reducible rfl) | rfl) ?_
          refine r_iload_n (i := 2) dX3_opens_17 rfl rfl ?_
          refine r_iload_n (i := 1) dX3_opens_18 rfl rfl ?_
          refine r_if_lt (tgt := 31) dX3_opens_19 (by decide) (fun h19 => ?_) (fun h19 => ?_)
          · exact absurd h19 (nI_lt0 (by omega))
          · refine r_aload_n (i := 0) dX3_opens_22 rfl rfl ?_
            refine r_iload_n (i := 2) dX3_opens_23 rfl rfl ?_
            refine r_iload_n (i := 1) dX3_opens_24 rfl rfl ?_
            refine r_callV (As := [_, _]) (mc' := 0) (ms' := 0) dX3_opens_25 k_X3_142 rfl (by first | assumption | (simp only [kd_sI, kd_sR, kd_sA, kd_sQ, kd_sL, kd_sD, ln_sI, ln_sR, ln_sA, ln_sQ, ln_sL, ln_sD, gI_sR, gI_sA, gI_sQ, gI_sL, gI_sD, gR_sI, gR_sA, gR_sQ, gR_sL, gR_sD, gA_sI, gA_sR, gA_sQ, gA_sL, gA_sD, gQ_sI, gQ_sR, gQ_sA, gQ_sL, gQ_sD, gL_sI, gL_sR, gL_sA, gL_sQ, gL_sD]; assumption) | simp [kd_sI, kd_sR, kd_sA, kd_sQ, kd_sL, kd_sD, ln_sI, ln_sR, ln_sA, ln_sQ, ln_sL, ln_sD, gI_sR, gI_sA, gI_sQ, gI_sL, gI_sD, gR_sI, gR_sA, gR_sQ, gR_sL, gR_sD, gA_sI, gA_sR, gA_sQ, gA_sL, gA_sD, gQ_sI, gQ_sR, gQ_sA, gQ_sL, gQ_sD, gL_sI, gL_sR, gL_sA, gL_sQ, gL_sD, kd_nO, kd_nA, *]) (T := TX3) (N := 27) rfl (by first | assumption | omega) (by first | assumption | omega) (by first | assumption | omega) (Nat.le_of_ble_eq_true rfl) ?_
            refine s_placeIn (by omega) hM1 (by rw [hgg]; exact hB) (by rw [hgg, ← hRe]; omega) (by rw [hgg]; exact hy) ?_
            rw [hgg]
            cases hq : q_place g i y with
            | none =>
              refine r_if_lt (tgt := 35) dX3_opens_28 (by decide) (fun h28 => ?_) (fun h28 => ?_)
              · refine r_iconst (v := nI 0) dX3_opens_35 (by decide) ?_
                refine put _ ?_
                show _ = bI ((q_place g i y).isSome)
                rw [hq]
                decide
              · exact absurd oI_neg1 h28
            | some j =>
              have hj : j < 4 := by
                unfold q_place at hq
                have hk := (hB.2.2.2.2.1 i (by rw [← hRe]; omega)).1.2
                cases h9 : find9 (fun k => q_class g (nI i) (nI k) == g (8 + 6 * y) && q_fit g i y k) 0 (nat g (45 + 5 * i)) with
                | some k9 => rw [h9] at hq; cases hq; have := (find9_lt h9).2.1; omega
                | none => rw [h9] at hq; have := (find9_lt hq).2.1; omega
              simp only [oI]
              refine r_if_lt (tgt := 35) dX3_opens_28 (by decide) (fun h28 => ?_) (fun h28 => ?_)
              · exact absurd h28 (nI_lt0 (by omega))
              · refine r_iconst (v := nI 1) dX3_opens_31 (by decide) ?_
                refine r_goto (tgt := 36) dX3_opens_32 (by decide) ?_
                refine put _ ?_
                show _ = bI ((q_place g i y).isSome)
                rw [hq]
                exact (show vp_nar .boolean (nI 1) = nI 1 by decide)
  exact loop R 0 H (by omega) MU.rf (fun t ht => absurd ht (by omega))
end Mo5
