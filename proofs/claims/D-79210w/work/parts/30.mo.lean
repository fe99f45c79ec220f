set_option maxRecDepth 100000
/-! THE REFERENCE: its cells, what its methods compute over the array g -/
def lenF : Nat → Nat
  | 68 => 385 | 69 => 385 | 70 => 385 | 73 => 3080 | 75 => 16 | 78 => 12 | 79 => 8 | 80 => 8 | 83 => 9 | 84 => 12 | 85 => 10 | 86 => 4096 | 87 => 4096 | 88 => 60 | 93 => 320
  | _ => 0
def MO (H : AH) (m : Nat) (ma : Nat → Nat) : Prop := kd H m = 19 ∧ ∀ f, lenF f ≠ 0 → gR H f m = some (ma f) ∧ kd H (ma f) = (if f = 78 then 3078 else 1000 + f) ∧ ln H (ma f) = lenF f
/-- what the reference may write: its own fields and arrays -/
def MF (H H' : AH) : Prop := kd H' = kd H ∧ ln H' = ln H ∧ gR H' = gR H ∧ gQ H' = gQ H ∧ gL H' = gL H ∧ gD H' = gD H ∧ (∀ f, f < 68 ∨ 94 < f → gI H' f = gI H f) ∧ ∀ k, (k < 1068 ∨ 1094 < k) → k ≠ 3078 → gA H' k = gA H k
theorem MF.rf {H : AH} : MF H H := ⟨rfl, rfl, rfl, rfl, rfl, rfl, fun _ _ => rfl, fun _ _ _ => rfl⟩
theorem MF.tr {H H1 H2 : AH} (h : MF H H1) (k : MF H1 H2) : MF H H2 := by
  obtain ⟨a1, a2, a3, a4, a5, a6, a7, a8⟩ := h
  obtain ⟨b1, b2, b3, b4, b5, b6, b7, b8⟩ := k
  exact ⟨b1.trans a1, b2.trans a2, b3.trans a3, b4.trans a4, b5.trans a5, b6.trans a6, fun f h => (b7 f h).trans (a7 f h), fun k h h' => (b8 k h h').trans (a8 k h h')⟩
theorem up2_ne1 {α : Type} {f : Nat → Nat → α} {i j i' : Nat} {v : α} (h : i' ≠ i) : up2 f i j v i' = f i' := by
  funext j'
  unfold up2
  rw [if_neg (fun q => h q.1)]
theorem MF.sI {H : AH} {f m : Nat} {v : Int32} (h1 : 68 ≤ f) (h2 : f ≤ 94) : MF H (sI H f m v) := ⟨rfl, rfl, rfl, rfl, rfl, rfl, fun f' h => up2_ne1 (by omega), fun _ _ _ => rfl⟩
theorem MF.sA {H : AH} {k a : Nat} {F : Nat → Int32} (h : (1068 ≤ k ∧ k ≤ 1094) ∨ k = 3078) : MF H (sA H k a F) := ⟨rfl, rfl, rfl, rfl, rfl, rfl, fun _ _ => rfl, fun k' h1 h2 => up2_ne1 (by omega)⟩
theorem MO.mf {H H' : AH} {m : Nat} {ma : Nat → Nat} (h : MO H m ma) (k : MF H H') : MO H' m ma := by
  obtain ⟨a1, a2, a3, -⟩ := k
  refine ⟨by rw [a1]; exact h.1, fun f hf => ?_⟩
  rw [a1, a2, a3]
  exact h.2 f hf
/-- what a field's number stands for in the heap of the reference: an int, or an array -/
def mI (H : AH) (m f : Nat) : Int32 := gI H f m
def mA (H : AH) (ma : Nat → Nat) (f : Nat) : Nat → Int32 := gA H (1000 + f) (ma f)
/-- H' is H but for the reference's fields fs -/
def MU (m : Nat) (_ : Nat → Nat) (fs : List Nat) (H H' : AH) : Prop := MF H H' ∧ ∀ f, f ∉ fs → gI H' f m = gI H f m ∧ gA H' (1000 + f) = gA H (1000 + f)
theorem MU.rf {m : Nat} {ma : Nat → Nat} {fs : List Nat} {H : AH} : MU m ma fs H H := ⟨MF.rf, fun _ _ => ⟨rfl, rfl⟩⟩
theorem MU.tr {m : Nat} {ma : Nat → Nat} {fs fs' : List Nat} {H H1 H2 : AH} (h : MU m ma fs H H1) (k : MU m ma fs' H1 H2) : MU m ma (fs ++ fs') H H2 :=
  ⟨h.1.tr k.1, fun f hf => ⟨(k.2 f (fun q => hf (List.mem_append_right _ q))).1.trans (h.2 f (fun q => hf (List.mem_append_left _ q))).1, (k.2 f (fun q => hf (List.mem_append_right _ q))).2.trans (h.2 f (fun q => hf (List.mem_append_left _ q))).2⟩⟩
theorem MU.sub {m : Nat} {ma : Nat → Nat} {fs fs' : List Nat} {H H1 : AH} (h : MU m ma fs H H1) (hs : ∀ f ∈ fs, f ∈ fs') : MU m ma fs' H H1 := ⟨h.1, fun f hf => h.2 f (fun q => hf (hs f q))⟩
theorem MU.sI {m : Nat} {ma : Nat → Nat} {fs : List Nat} {H H1 : AH} {f : Nat} {v : Int32} (h : MU m ma fs H H1) (h1 : 68 ≤ f) (h2 : f ≤ 94) (hm : f ∈ fs) : MU m ma fs H (sI H1 f m v) := by
  refine ⟨h.1.tr (MF.sI h1 h2), fun f' hf => ⟨?_, (h.2 f' hf).2⟩⟩
  rw [gI_sI, if_neg (fun q => hf (by rw [q.1]; exact hm))]
  exact (h.2 f' hf).1
theorem MU.sA {m : Nat} {ma : Nat → Nat} {fs : List Nat} {H H1 : AH} {f k a : Nat} {F : Nat → Int32} (h : MU m ma fs H H1) (hk : (68 ≤ f ∧ f ≤ 94 ∧ k = 1000 + f) ∨ (f = 78 ∧ k = 3078)) (hm : f ∈ fs) (hx : f = 78 → 2078 ∈ fs) : MU m ma fs H (sA H1 k a F) := by
  refine ⟨h.1.tr (MF.sA (by omega)), fun f' hf => ⟨(h.2 f' hf).1, ?_⟩⟩
  have hne : 1000 + f' ≠ k := by
    intro q
    rcases hk with ⟨-, -, rfl⟩ | ⟨rfl, rfl⟩
    · have : f' = f := by omega
      exact hf (by rw [this]; exact hm)
    · have : f' = 2078 := by omega
      exact hf (by rw [this]; exact hx rfl)
  exact (up2_ne1 hne).trans (h.2 f' hf).2
theorem MU.g68 {m : Nat} {ma : Nat → Nat} {fs : List Nat} {H H1 : AH} (h : MU m ma fs H H1) (hf : 68 ∉ fs) : gA H1 1068 = gA H 1068 := (h.2 68 hf).2
/-! numbers of g -/
def nat (g : Nat → Int32) (i : Nat) : Nat := (g i).toNatClampNeg
def isN (g : Nat → Int32) (i b : Nat) : Prop := g i = nI (nat g i) ∧ nat g i < b
theorem isN_of {g : Nat → Int32} {i n b : Nat} (h : g i = nI n) (hn : n < b) (hb : n < 2147483648) : isN g i b ∧ nat g i = n := by
  have e : nat g i = n := by unfold nat; rw [h]; exact nI_clamp hb
  exact ⟨⟨by rw [e]; exact h, by rw [e]; exact hn⟩, e⟩
/-- the bounds of the counts and of what is used as a place -/
def GB (g : Nat → Int32) : Prop := isN g 3 7 ∧ isN g 40 13 ∧ isN g 101 13 ∧ isN g 354 11 ∧ (∀ t, t < nat g 40 → isN g (45 + 5 * t) 4 ∧ 0 < nat g (45 + 5 * t)) ∧
  ∀ c, c < nat g 101 → isN g (102 + 21 * c) (nat g 3) ∧ isN g (106 + 21 * c) 8 ∧ ∀ k, k < nat g (106 + 21 * c) → isN g (109 + 21 * c + k) (nat g 40)
def find9 (p : Nat → Bool) : Nat → Nat → Option Nat
  | _, 0 => none
  | i, k + 1 => if p i then some i else find9 p (i + 1) k
theorem find9_lt {p : Nat → Bool} {i k j : Nat} (h : find9 p i k = some j) : i ≤ j ∧ j < i + k ∧ p j = true := by
  induction k generalizing i with
  | zero => cases h
  | succ k ih =>
    unfold find9 at h
    split at h
    · rename_i hp
      cases h
      exact ⟨Nat.le_refl _, by omega, hp⟩
    · obtain ⟨h1, h2, h3⟩ := ih h
      exact ⟨by omega, by omega, h3⟩
theorem find9_none {p : Nat → Bool} {i k j : Nat} (h : find9 p i k = none) (h1 : i ≤ j) (h2 : j < i + k) : p j = false := by
  induction k generalizing i with
  | zero => omega
  | succ k ih =>
    unfold find9 at h
    split at h
    · cases h
    · rename_i hp
      by_cases e : j = i
      · subst e; simpa using hp
      · exact ih h (by omega) (by omega)
theorem find9_some {p : Nat → Bool} {i k j : Nat} (h : find9 p i k = some j) {l : Nat} (h1 : i ≤ l) (h2 : l < j) : p l = false := by
  induction k generalizing i with
  | zero => cases h
  | succ k ih =>
    unfold find9 at h
    split at h
    · cases h; omega
    · rename_i hp
      by_cases e : l = i
      · subst e; simpa using hp
      · exact ih h (by omega)
def oI : Option Nat → Int32
  | none => -1
  | some k => nI k
theorem oI_neg {o : Option Nat} : oI o < 0 ↔ o = none ∨ ∃ k, o = some k ∧ nI k < 0 := by
  cases o with
  | none => simp [oI]
  | some k => simp [oI]
def sumN (F : Nat → Int32) : Nat → Int32
  | 0 => nI 0
  | n + 1 => sumN F n + F n
def orN (F : Nat → Int32) : Nat → Int32
  | 0 => nI 0
  | n + 1 => orN F n ||| F n
/-- on which step of the cable c the tray t is -/
def q_step (g : Nat → Int32) (c : Nat) (t : Int32) : Option Nat := find9 (fun k => g (109 + 21 * c + k) == t) 0 (nat g (106 + 21 * c))
def q_set (g : Nat → Int32) (t : Int32) : Int32 := orN (fun c => if (q_step g c t).isSome then nI 1 <<< (nI c &&& 31) else nI 0) (nat g 101)
/-- the cable c lies in the tray t, in the compartment k -/
def q_in (g : Nat → Int32) (t k : Int32) (c : Nat) : Bool := match q_step g c t with
  | none => false
  | some j => g (116 + 21 * c + j) == k
def q_area (g : Nat → Int32) (t k : Int32) : Int32 := sumN (fun c => if q_in g t k c then g (9 + 6 * nat g (102 + 21 * c)) else nI 0) (nat g 101)
def q_class (g : Nat → Int32) (t k : Int32) : Int32 := match find9 (q_in g t k) 0 (nat g 101) with
  | none => -1
  | some c => g (8 + 6 * nat g (102 + 21 * c))
def q_room (g : Nat → Int32) (t : Nat) : Int32 := g (44 + 5 * t) / g (45 + 5 * t)
def q_kept (g : Nat → Int32) (t : Nat) : Int32 := (q_room g t * g 0 + nI 99) / nI 100
def q_fit (g : Nat → Int32) (t ty k : Nat) : Bool := decide (q_area g (nI t) (nI k) + g (9 + 6 * ty) ≤ q_room g t - q_kept g t)
def q_place (g : Nat → Int32) (t ty : Nat) : Option Nat := match find9 (fun k => q_class g (nI t) (nI k) == g (8 + 6 * ty) && q_fit g t ty k) 0 (nat g (45 + 5 * t)) with
  | some k => some k
  | none => find9 (fun k => q_fit g t ty k && decide (q_class g (nI t) (nI k) < 0)) 0 (nat g (45 + 5 * t))
