set_option maxRecDepth 100000
/-! texts -/
def sv (j : Nat) : Int32 := nI 24 - nI (8 * j)
def byt (p : Int32) (j : Nat) : Int32 := (p.toUInt32 >>> ((sv j).toUInt32 &&& Int32.toUInt32 31)).toInt32 &&& nI 255
def badB (p : Int32) (j : Nat) : Bool := !(byt p j == 0) && !(inB (byt p j) (nI 32) (nI 126))
def anyBad (p : Int32) : Nat → Bool
  | 0 => false
  | j + 1 => anyBad p j || badB p j
def codesB (p : Int32) : Nat → List Nat
  | 0 => []
  | j + 1 => codesB p j ++ (if byt p j = 0 then [] else [(byt p j).toNatClampNeg])
def p_append (p : Int32) (B : List Nat) : Nat × Int32 × List Nat := if anyBad p 4 = true then (1, nI 0, B) else if 60 < B.length + (codesB p 4).length then (2, nI 0, B) else (0, nI (B.length + (codesB p 4).length), B ++ codesB p 4)
def BufR (H : AH) (m : Nat) (ma : Nat → Nat) (B : List Nat) : Prop := gI H 89 m = nI B.length ∧ B.length ≤ 60 ∧ (∀ k, k < B.length → gA H 1088 (ma 88) k = nI (B.getD k 0)) ∧ ∀ b, b ∈ B → 32 ≤ b ∧ b ≤ 126
theorem BufR.mu {H H' : AH} {m : Nat} {ma : Nat → Nat} {B : List Nat} {fs : List Nat} (h : BufR H m ma B) (k : MU m ma fs H H') (h1 : 88 ∉ fs) (h2 : 89 ∉ fs) : BufR H' m ma B := by
  obtain ⟨a, b, c, e⟩ := h
  refine ⟨by rw [(k.2 89 h2).1]; exact a, b, ?_, e⟩
  intro k1 hk
  rw [show gA H' 1088 = gA H 1088 from (k.2 88 h1).2]
  exact c k1 hk
theorem sv_pos : ∀ j, j < 4 → ¬ sv j < 0 := by decide
theorem sv_4 : sv 4 < 0 := by decide
theorem sv_s : ∀ j, j < 4 → sv j + Int32.ofInt (-8) = sv (j + 1) := by decide
theorem codes_ok {p : Int32} : ∀ n, n ≤ 4 → anyBad p n = false → ∀ b, b ∈ codesB p n → 32 ≤ b ∧ b ≤ 126 := by
  intro n
  induction n with
  | zero => intro _ _ b hb; cases hb
  | succ n ih =>
    intro hn ha b hb
    unfold anyBad at ha
    rw [Bool.or_eq_false_iff] at ha
    unfold codesB at hb
    rw [List.mem_append] at hb
    rcases hb with hb | hb
    · exact ih (by omega) ha.1 b hb
    · by_cases h0 : byt p n = 0
      · rw [if_pos h0] at hb; cases hb
      · rw [if_neg h0, List.mem_singleton] at hb
        have h2 := ha.2
        unfold badB at h2
        rw [beq_eq_false_iff_ne.mpr h0] at h2
        have h3 : inB (byt p n) (nI 32) (nI 126) = true := by
          cases hh : inB (byt p n) (nI 32) (nI 126)
          · rw [hh] at h2; exact absurd h2 (by decide)
          · rfl
        unfold inB at h3
        rw [decide_eq_true_iff] at h3
        rw [hb]
        have h4 := Int32.le_iff_toInt_le.mp h3.1
        have h5 := Int32.le_iff_toInt_le.mp h3.2
        rw [nI_toInt (by omega)] at h4 h5
        show 32 ≤ (byt p n).toInt.toNat ∧ (byt p n).toInt.toNat ≤ 126
        omega
theorem codes_len {p : Int32} : ∀ n, (codesB p n).length ≤ n := by
  intro n
  induction n with
  | zero => exact Nat.le_refl _
  | succ n ih =>
    unfold codesB
    rw [List.length_append]
    split
    · simp; omega
    · simp; omega
section Mo19
variable {G : Gl} {d m : Nat} {ma : Nat → Nat} {Qr : Option AV → AH → Prop} {Qx : String → Nat → AH → Prop} {H : AH}
theorem s_append {p : Int32} {B : List Nat} (hd : 1 ≤ d) (hM : MO H m ma) (hR : BufR H m ma B)
    (hQ : ∀ H', MU m ma [77, 88, 89] H H' → gI H' 77 m = nI (p_append p B).1 → BufR H' m ma (p_append p B).2.2 → Qr (some (vI (p_append p B).2.1)) H') : AMet G d 0 0 yX3_append wX3_append H [vR (some m), vI p] Qr Qx := by
  have e0 := hM.1
  refine AMet.of (M := mX3_append) (maxL := 5) rfl rfl (Nat.le_of_ble_eq_true rfl) ?_
  show AW mX3_append _ _ _ _ _ _ _ 0 [some (vR (some m)), some (vI p), none, none, none] []
  refine r_aload_n (i := 0) dX3_append_0 rfl rfl ?_
  refine r_iconst (v := nI 0) dX3_append_1 (by decide) ?_
  refine r_putI dX3_append_2 fG_X3_66 (fun _ => by first | rfl | contradiction) (by first | assumption | (simp only [kd_sI, kd_sR, kd_sA, kd_sQ, kd_sL, kd_sD, ln_sI, ln_sR, ln_sA, ln_sQ, ln_sL, ln_sD, gI_sR, gI_sA, gI_sQ, gI_sL, gI_sD, gR_sI, gR_sA, gR_sQ, gR_sL, gR_sD, gA_sI, gA_sR, gA_sQ, gA_sL, gA_sD, gQ_sI, gQ_sR, gQ_sA, gQ_sL, gQ_sD, gL_sI, gL_sR, gL_sA, gL_sQ, gL_sD]; assumption) | simp [kd_sI, kd_sR, kd_sA, kd_sQ, kd_sL, kd_sD, ln_sI, ln_sR, ln_sA, ln_sQ, ln_sL, ln_sD, gI_sR, gI_sA, gI_sQ, gI_sL, gI_sD, gR_sI, gR_sA, gR_sQ, gR_sL, gR_sD, gA_sI, gA_sR, gA_sQ, gA_sL, gA_sD, gQ_sI, gQ_sR, gQ_sA, gQ_sL, gQ_sD, gL_sI, gL_sR, gL_sA, gL_sQ, gL_sD, kd_nO, kd_nA, *]) (by first | rfl | assumption) (by first | rfl | assumption) ?_
  refine r_iconst (v := nI 0) dX3_append_5 (by decide) ?_
  refine r_istore_n (i := 2) dX3_append_6 rfl (Nat.le_of_ble_eq_true rfl) (by simp only [lset]; rfl) ?_
  refine r_bipush (v := nI 24) dX3_append_7 (by decide) ?_
  refine r_istore_n (i := 3) dX3_append_9 rfl (Nat.le_of_ble_eq_true rfl) (by simp only [lset]; rfl) ?_
  have l2 : ∀ (H1 : AH) (o3 o4 : Option AV), MU m ma [77, 88, 89] H H1 → BufR H1 m ma B → gI H1 77 m = nI (if anyBad p 4 then 1 else 0) → AW mX3_append G d Qr Qx 0 0 H1 71 [some (vR (some m)), some (vI p), some (vI (nI (codesB p 4).length)), o3, o4] [] := by
    intro H1 o3 o4 hU hR1 h77
    have hM1 := hM.mf hU.1
    have e01 := hM1.1
    obtain ⟨b1, b2, b3, b4⟩ := hR1
    unfold p_append at hQ
    have hcl := codes_len (p := p) 4
    have stop : ∀ (H2 : AH) (n : Nat), n ≠ 0 → n < 10 → MU m ma [77, 88, 89] H H2 → BufR H2 m ma B → gI H2 77 m = nI n → Qr (some (vI (nI 0))) H2 → AW mX3_append G d Qr Qx 0 0 H2 101 [some (vR (some m)), some (vI p), some (vI (nI (codesB p 4).length)), o3, o4] [] := by
      intro H2 n hn hn2 hU2 hR2 h2 hq
      have hM2 := hM.mf hU2.1
      have e02 := hM2.1
      refine r_bipush (v := nI 24) dX3_append_101 (by decide) ?_
      refine r_istore_n (i := 3) dX3_append_103 rfl (Nat.le_of_ble_eq_true rfl) (by simp only [lset]; rfl) ?_
      refine r_iload_n (i := 3) dX3_append_104 rfl rfl ?_
      refine r_if_lt (tgt := 156) dX3_append_105 (by decide) (fun h105 => ?_) (fun h105 => ?_)
      · exact absurd h105 (by decide)
      · refine r_aload_n (i := 0) dX3_append_108 rfl rfl ?_
        refine r_getI dX3_append_109 fR_X3_66 (by first | assumption | (simp only [kd_sI, kd_sR, kd_sA, kd_sQ, kd_sL, kd_sD, ln_sI, ln_sR, ln_sA, ln_sQ, ln_sL, ln_sD, gI_sR, gI_sA, gI_sQ, gI_sL, gI_sD, gR_sI, gR_sA, gR_sQ, gR_sL, gR_sD, gA_sI, gA_sR, gA_sQ, gA_sL, gA_sD, gQ_sI, gQ_sR, gQ_sA, gQ_sL, gQ_sD, gL_sI, gL_sR, gL_sA, gL_sQ, gL_sD]; assumption) | simp [kd_sI, kd_sR, kd_sA, kd_sQ, kd_sL, kd_sD, ln_sI, ln_sR, ln_sA, ln_sQ, ln_sL, ln_sD, gI_sR, gI_sA, gI_sQ, gI_sL, gI_sD, gR_sI, gR_sA, gR_sQ, gR_sL, gR_sD, gA_sI, gA_sR, gA_sQ, gA_sL, gA_sD, gQ_sI, gQ_sR, gQ_sA, gQ_sL, gQ_sD, gL_sI, gL_sR, gL_sA, gL_sQ, gL_sD, kd_nO, kd_nA, *]) (by first | assumption | exact gI_sIs | exact gR_sRs | with_reducible rfl | (simp only [kd_sI, kd_sR, kd_sA, kd_sQ, kd_sL, kd_sD, ln_sI, ln_sR, ln_sA, ln_sQ, ln_sL, ln_sD, gI_sR, gI_sA, gI_sQ, gI_sL, gI_sD, gR_sI, gR_sA, gR_sQ, gR_sL, gR_sD, gA_sI, gA_sR, gA_sQ, gA_sL, gA_sD, gQ_sI, gQ_sR, gQ_sA, gQ_sL, gQ_sD, gL_sI, gL_sR, gL_sA, gL_sQ, gL_sD]; first | done | assumption | with_reducible rfl) | rfl) ?_
        refine r_if_ne (tgt := 156) dX3_append_112 (by decide) (fun h112 => ?_) (fun h112 => ?_)
        · refine r_aload_n (i := 0) dX3_append_156 rfl rfl ?_
          refine r_getI dX3_append_157 fR_X3_66 (by first | assumption | (simp only [kd_sI, kd_sR, kd_sA, kd_sQ, kd_sL, kd_sD, ln_sI, ln_sR, ln_sA, ln_sQ, ln_sL, ln_sD, gI_sR, gI_sA, gI_sQ, gI_sL, gI_sD, gR_sI, gR_sA, gR_sQ, gR_sL, gR_sD, gA_sI, gA_sR, gA_sQ, gA_sL, gA_sD, gQ_sI, gQ_sR, gQ_sA, gQ_sL, gQ_sD, gL_sI, gL_sR, gL_sA, gL_sQ, gL_sD]; assumption) | simp [kd_sI, kd_sR, kd_sA, kd_sQ, kd_sL, kd_sD, ln_sI, ln_sR, ln_sA, ln_sQ, ln_sL, ln_sD, gI_sR, gI_sA, gI_sQ, gI_sL, gI_sD, gR_sI, gR_sA, gR_sQ, gR_sL, gR_sD, gA_sI, gA_sR, gA_sQ, gA_sL, gA_sD, gQ_sI, gQ_sR, gQ_sA, gQ_sL, gQ_sD, gL_sI, gL_sR, gL_sA, gL_sQ, gL_sD, kd_nO, kd_nA, *]) (by first | assumption | exact gI_sIs | exact gR_sRs | with_reducible rfl | (simp only [kd_sI, kd_sR, kd_sA, kd_sQ, kd_sL, kd_sD, ln_sI, ln_sR, ln_sA, ln_sQ, ln_sL, ln_sD, gI_sR, gI_sA, gI_sQ, gI_sL, gI_sD, gR_sI, gR_sA, gR_sQ, gR_sL, gR_sD, gA_sI, gA_sR, gA_sQ, gA_sL, gA_sD, gQ_sI, gQ_sR, gQ_sA, gQ_sL, gQ_sD, gL_sI, gL_sR, gL_sA, gL_sQ, gL_sD]; first | done | assumption | with_reducible rfl) | rfl) ?_
          refine r_if_le (tgt := 167) dX3_append_160 (by decide) (fun h160 => ?_) (fun h160 => ?_)
          · exact absurd h160 (by rw [← nI_0]; exact nI_ge (by omega) (by omega))
          · refine r_iconst (v := nI 0) dX3_append_163 (by decide) ?_
            refine r_goto (tgt := 171) dX3_append_164 (by decide) ?_
            refine r_ireturn dX3_append_171 rfl (by first | rfl | assumption | exact vp_nar_int _ | exact pk_nc _) ?_
            exact hq
        · exact absurd h112 (nI_ne0 (by omega) (by omega))
    cases hab : anyBad p 4 with
    | true =>
      rw [hab] at h77 hQ
      have h77' : gI H1 77 m = nI 1 := h77
      refine r_aload_n (i := 0) dX3_append_71 rfl rfl ?_
      refine r_aload_n (i := 0) dX3_append_72 rfl rfl ?_
      refine r_getI dX3_append_73 fR_X3_66 (by first | assumption | (simp only [kd_sI, kd_sR, kd_sA, kd_sQ, kd_sL, kd_sD, ln_sI, ln_sR, ln_sA, ln_sQ, ln_sL, ln_sD, gI_sR, gI_sA, gI_sQ, gI_sL, gI_sD, gR_sI, gR_sA, gR_sQ, gR_sL, gR_sD, gA_sI, gA_sR, gA_sQ, gA_sL, gA_sD, gQ_sI, gQ_sR, gQ_sA, gQ_sL, gQ_sD, gL_sI, gL_sR, gL_sA, gL_sQ, gL_sD]; assumption) | simp [kd_sI, kd_sR, kd_sA, kd_sQ, kd_sL, kd_sD, ln_sI, ln_sR, ln_sA, ln_sQ, ln_sL, ln_sD, gI_sR, gI_sA, gI_sQ, gI_sL, gI_sD, gR_sI, gR_sA, gR_sQ, gR_sL, gR_sD, gA_sI, gA_sR, gA_sQ, gA_sL, gA_sD, gQ_sI, gQ_sR, gQ_sA, gQ_sL, gQ_sD, gL_sI, gL_sR, gL_sA, gL_sQ, gL_sD, kd_nO, kd_nA, *]) (by first | assumption | exact gI_sIs | exact gR_sRs | with_reducible rfl | (simp only [kd_sI, kd_sR, kd_sA, kd_sQ, kd_sL, kd_sD, ln_sI, ln_sR, ln_sA, ln_sQ, ln_sL, ln_sD, gI_sR, gI_sA, gI_sQ, gI_sL, gI_sD, gR_sI, gR_sA, gR_sQ, gR_sL, gR_sD, gA_sI, gA_sR, gA_sQ, gA_sL, gA_sD, gQ_sI, gQ_sR, gQ_sA, gQ_sL, gQ_sD, gL_sI, gL_sR, gL_sA, gL_sQ, gL_sD]; first | done | assumption | with_reducible rfl) | rfl) ?_
      refine r_if_ne (tgt := 94) dX3_append_76 (by decide) (fun h76 => ?_) (fun h76 => ?_)
      · refine r_aload_n (i := 0) dX3_append_94 rfl rfl ?_
        refine r_getI dX3_append_95 fR_X3_66 (by first | assumption | (simp only [kd_sI, kd_sR, kd_sA, kd_sQ, kd_sL, kd_sD, ln_sI, ln_sR, ln_sA, ln_sQ, ln_sL, ln_sD, gI_sR, gI_sA, gI_sQ, gI_sL, gI_sD, gR_sI, gR_sA, gR_sQ, gR_sL, gR_sD, gA_sI, gA_sR, gA_sQ, gA_sL, gA_sD, gQ_sI, gQ_sR, gQ_sA, gQ_sL, gQ_sD, gL_sI, gL_sR, gL_sA, gL_sQ, gL_sD]; assumption) | simp [kd_sI, kd_sR, kd_sA, kd_sQ, kd_sL, kd_sD, ln_sI, ln_sR, ln_sA, ln_sQ, ln_sL, ln_sD, gI_sR, gI_sA, gI_sQ, gI_sL, gI_sD, gR_sI, gR_sA, gR_sQ, gR_sL, gR_sD, gA_sI, gA_sR, gA_sQ, gA_sL, gA_sD, gQ_sI, gQ_sR, gQ_sA, gQ_sL, gQ_sD, gL_sI, gL_sR, gL_sA, gL_sQ, gL_sD, kd_nO, kd_nA, *]) (by first | assumption | exact gI_sIs | exact gR_sRs | with_reducible rfl | (simp only [kd_sI, kd_sR, kd_sA, kd_sQ, kd_sL, kd_sD, ln_sI, ln_sR, ln_sA, ln_sQ, ln_sL, ln_sD, gI_sR, gI_sA, gI_sQ, gI_sL, gI_sD, gR_sI, gR_sA, gR_sQ, gR_sL, gR_sD, gA_sI, gA_sR, gA_sQ, gA_sL, gA_sD, gQ_sI, gQ_sR, gQ_sA, gQ_sL, gQ_sD, gL_sI, gL_sR, gL_sA, gL_sQ, gL_sD]; first | done | assumption | with_reducible rfl) | rfl) ?_
        refine r_putI dX3_append_98 fG_X3_66 (fun _ => by first | rfl | contradiction) (by first | assumption | (simp only [kd_sI, kd_sR, kd_sA, kd_sQ, kd_sL, kd_sD, ln_sI, ln_sR, ln_sA, ln_sQ, ln_sL, ln_sD, gI_sR, gI_sA, gI_sQ, gI_sL, gI_sD, gR_sI, gR_sA, gR_sQ, gR_sL, gR_sD, gA_sI, gA_sR, gA_sQ, gA_sL, gA_sD, gQ_sI, gQ_sR, gQ_sA, gQ_sL, gQ_sD, gL_sI, gL_sR, gL_sA, gL_sQ, gL_sD]; assumption) | simp [kd_sI, kd_sR, kd_sA, kd_sQ, kd_sL, kd_sD, ln_sI, ln_sR, ln_sA, ln_sQ, ln_sL, ln_sD, gI_sR, gI_sA, gI_sQ, gI_sL, gI_sD, gR_sI, gR_sA, gR_sQ, gR_sL, gR_sD, gA_sI, gA_sR, gA_sQ, gA_sL, gA_sD, gQ_sI, gQ_sR, gQ_sA, gQ_sL, gQ_sD, gL_sI, gL_sR, gL_sA, gL_sQ, gL_sD, kd_nO, kd_nA, *]) (by first | rfl | assumption) (by first | rfl | assumption) ?_
        have hR2 : BufR (sI H1 77 m (nI 1)) m ma B := BufR.mu (H := H1) ⟨b1, b2, b3, b4⟩ (fs := [77]) (MU.rf.sI (by decide) (by decide) (by decide)) (by decide) (by decide)
        have hU2 : MU m ma [77, 88, 89] H (sI H1 77 m (nI 1)) := hU.sI (by decide) (by decide) (by decide)
        exact stop _ 1 (by decide) (by decide) hU2 hR2 gI_sIs (hQ _ hU2 gI_sIs hR2)
      · exact absurd h76 (by decide)
    | false =>
      rw [hab] at h77 hQ
      have h77' : gI H1 77 m = nI 0 := h77
      have hco := codes_ok (p := p) 4 (by omega) hab
      rw [if_neg (by decide)] at hQ
      refine r_aload_n (i := 0) dX3_append_71 rfl rfl ?_
      refine r_aload_n (i := 0) dX3_append_72 rfl rfl ?_
      refine r_getI dX3_append_73 fR_X3_66 (by first | assumption | (simp only [kd_sI, kd_sR, kd_sA, kd_sQ, kd_sL, kd_sD, ln_sI, ln_sR, ln_sA, ln_sQ, ln_sL, ln_sD, gI_sR, gI_sA, gI_sQ, gI_sL, gI_sD, gR_sI, gR_sA, gR_sQ, gR_sL, gR_sD, gA_sI, gA_sR, gA_sQ, gA_sL, gA_sD, gQ_sI, gQ_sR, gQ_sA, gQ_sL, gQ_sD, gL_sI, gL_sR, gL_sA, gL_sQ, gL_sD]; assumption) | simp [kd_sI, kd_sR, kd_sA, kd_sQ, kd_sL, kd_sD, ln_sI, ln_sR, ln_sA, ln_sQ, ln_sL, ln_sD, gI_sR, gI_sA, gI_sQ, gI_sL, gI_sD, gR_sI, gR_sA, gR_sQ, gR_sL, gR_sD, gA_sI, gA_sR, gA_sQ, gA_sL, gA_sD, gQ_sI, gQ_sR, gQ_sA, gQ_sL, gQ_sD, gL_sI, gL_sR, gL_sA, gL_sQ, gL_sD, kd_nO, kd_nA, *]) (by first | assumption | exact gI_sIs | exact gR_sRs | with_reducible rfl | (simp only [kd_sI, kd_sR, kd_sA, kd_sQ, kd_sL, kd_sD, ln_sI, ln_sR, ln_sA, ln_sQ, ln_sL, ln_sD, gI_sR, gI_sA, gI_sQ, gI_sL, gI_sD, gR_sI, gR_sA, gR_sQ, gR_sL, gR_sD, gA_sI, gA_sR, gA_sQ, gA_sL, gA_sD, gQ_sI, gQ_sR, gQ_sA, gQ_sL, gQ_sD, gL_sI, gL_sR, gL_sA, gL_sQ, gL_sD]; first | done | assumption | with_reducible rfl) | rfl) ?_
      refine r_if_ne (tgt := 94) dX3_append_76 (by decide) (fun h76 => ?_) (fun h76 => ?_)
      · exact absurd (by decide) h76
      · refine r_aload_n (i := 0) dX3_append_79 rfl rfl ?_
        refine r_getI dX3_append_80 fR_X3_209 (by first | assumption | (simp only [kd_sI, kd_sR, kd_sA, kd_sQ, kd_sL, kd_sD, ln_sI, ln_sR, ln_sA, ln_sQ, ln_sL, ln_sD, gI_sR, gI_sA, gI_sQ, gI_sL, gI_sD, gR_sI, gR_sA, gR_sQ, gR_sL, gR_sD, gA_sI, gA_sR, gA_sQ, gA_sL, gA_sD, gQ_sI, gQ_sR, gQ_sA, gQ_sL, gQ_sD, gL_sI, gL_sR, gL_sA, gL_sQ, gL_sD]; assumption) | simp [kd_sI, kd_sR, kd_sA, kd_sQ, kd_sL, kd_sD, ln_sI, ln_sR, ln_sA, ln_sQ, ln_sL, ln_sD, gI_sR, gI_sA, gI_sQ, gI_sL, gI_sD, gR_sI, gR_sA, gR_sQ, gR_sL, gR_sD, gA_sI, gA_sR, gA_sQ, gA_sL, gA_sD, gQ_sI, gQ_sR, gQ_sA, gQ_sL, gQ_sD, gL_sI, gL_sR, gL_sA, gL_sQ, gL_sD, kd_nO, kd_nA, *]) (by first | assumption | exact gI_sIs | exact gR_sRs | with_reducible rfl | (simp only [kd_sI, kd_sR, kd_sA, kd_sQ, kd_sL, kd_sD, ln_sI, ln_sR, ln_sA, ln_sQ, ln_sL, ln_sD, gI_sR, gI_sA, gI_sQ, gI_sL, gI_sD, gR_sI, gR_sA, gR_sQ, gR_sL, gR_sD, gA_sI, gA_sR, gA_sQ, gA_sL, gA_sD, gQ_sI, gQ_sR, gQ_sA, gQ_sL, gQ_sD, gL_sI, gL_sR, gL_sA, gL_sQ, gL_sD]; first | done | assumption | with_reducible rfl) | rfl) ?_
        refine r_iload_n (i := 2) dX3_append_83 rfl rfl ?_
        refine r_iadd dX3_append_84 ?_
        refine r_bipush (v := nI 60) dX3_append_85 (by decide) ?_
        refine r_icmp_le (tgt := 94) dX3_append_87 (by decide) (fun h87 => ?_) (fun h87 => ?_)
        · rw [nI_add] at h87
          have hle := (nI_leI (by omega) (by omega)).mp h87
          rw [if_neg (by omega)] at hQ
          refine r_aload_n (i := 0) dX3_append_94 rfl rfl ?_
          refine r_getI dX3_append_95 fR_X3_66 (by first | assumption | (simp only [kd_sI, kd_sR, kd_sA, kd_sQ, kd_sL, kd_sD, ln_sI, ln_sR, ln_sA, ln_sQ, ln_sL, ln_sD, gI_sR, gI_sA, gI_sQ, gI_sL, gI_sD, gR_sI, gR_sA, gR_sQ, gR_sL, gR_sD, gA_sI, gA_sR, gA_sQ, gA_sL, gA_sD, gQ_sI, gQ_sR, gQ_sA, gQ_sL, gQ_sD, gL_sI, gL_sR, gL_sA, gL_sQ, gL_sD]; assumption) | simp [kd_sI, kd_sR, kd_sA, kd_sQ, kd_sL, kd_sD, ln_sI, ln_sR, ln_sA, ln_sQ, ln_sL, ln_sD, gI_sR, gI_sA, gI_sQ, gI_sL, gI_sD, gR_sI, gR_sA, gR_sQ, gR_sL, gR_sD, gA_sI, gA_sR, gA_sQ, gA_sL, gA_sD, gQ_sI, gQ_sR, gQ_sA, gQ_sL, gQ_sD, gL_sI, gL_sR, gL_sA, gL_sQ, gL_sD, kd_nO, kd_nA, *]) (by first | assumption | exact gI_sIs | exact gR_sRs | with_reducible rfl | (simp only [kd_sI, kd_sR, kd_sA, kd_sQ, kd_sL, kd_sD, ln_sI, ln_sR, ln_sA, ln_sQ, ln_sL, ln_sD, gI_sR, gI_sA, gI_sQ, gI_sL, gI_sD, gR_sI, gR_sA, gR_sQ, gR_sL, gR_sD, gA_sI, gA_sR, gA_sQ, gA_sL, gA_sD, gQ_sI, gQ_sR, gQ_sA, gQ_sL, gQ_sD, gL_sI, gL_sR, gL_sA, gL_sQ, gL_sD]; first | done | assumption | with_reducible rfl) | rfl) ?_
          refine r_putI dX3_append_98 fG_X3_66 (fun _ => by first | rfl | contradiction) (by first | assumption | (simp only [kd_sI, kd_sR, kd_sA, kd_sQ, kd_sL, kd_sD, ln_sI, ln_sR, ln_sA, ln_sQ, ln_sL, ln_sD, gI_sR, gI_sA, gI_sQ, gI_sL, gI_sD, gR_sI, gR_sA, gR_sQ, gR_sL, gR_sD, gA_sI, gA_sR, gA_sQ, gA_sL, gA_sD, gQ_sI, gQ_sR, gQ_sA, gQ_sL, gQ_sD, gL_sI, gL_sR, gL_sA, gL_sQ, gL_sD]; assumption) | simp [kd_sI, kd_sR, kd_sA, kd_sQ, kd_sL, kd_sD, ln_sI, ln_sR, ln_sA, ln_sQ, ln_sL, ln_sD, gI_sR, gI_sA, gI_sQ, gI_sL, gI_sD, gR_sI, gR_sA, gR_sQ, gR_sL, gR_sD, gA_sI, gA_sR, gA_sQ, gA_sL, gA_sD, gQ_sI, gQ_sR, gQ_sA, gQ_sL, gQ_sD, gL_sI, gL_sR, gL_sA, gL_sQ, gL_sD, kd_nO, kd_nA, *]) (by first | rfl | assumption) (by first | rfl | assumption) ?_
          refine r_bipush (v := nI 24) dX3_append_101 (by decide) ?_
          refine r_istore_n (i := 3) dX3_append_103 rfl (Nat.le_of_ble_eq_true rfl) (by simp only [lset]; rfl) ?_
          have loop : ∀ (k j : Nat) (H2 : AH) (o4 : Option AV), j + k = 4 → MU m ma [77, 88, 89] H H2 → gI H2 77 m = nI 0 → BufR H2 m ma (B ++ codesB p j) → AW mX3_append G d Qr Qx 0 0 H2 104 [some (vR (some m)), some (vI p), some (vI (nI (codesB p 4).length)), some (vI (sv j)), o4] [] := by
            intro k
            induction k with
            | zero =>
              intro j H2 o4 hj hU2 h772 hR2
              have hM2 := hM.mf hU2.1
              have e02 := hM2.1
              rw [show j = 4 by omega] at hR2 ⊢
              have c1 := hR2.1
              refine r_iload_n (i := 3) dX3_append_104 rfl rfl ?_
              refine r_if_lt (tgt := 156) dX3_append_105 (by decide) (fun h105 => ?_) (fun h105 => ?_)
              · refine r_aload_n (i := 0) dX3_append_156 rfl rfl ?_
                refine r_getI dX3_append_157 fR_X3_66 (by first | assumption | (simp only [kd_sI, kd_sR, kd_sA, kd_sQ, kd_sL, kd_sD, ln_sI, ln_sR, ln_sA, ln_sQ, ln_sL, ln_sD, gI_sR, gI_sA, gI_sQ, gI_sL, gI_sD, gR_sI, gR_sA, gR_sQ, gR_sL, gR_sD, gA_sI, gA_sR, gA_sQ, gA_sL, gA_sD, gQ_sI, gQ_sR, gQ_sA, gQ_sL, gQ_sD, gL_sI, gL_sR, gL_sA, gL_sQ, gL_sD]; assumption) | simp [kd_sI, kd_sR, kd_sA, kd_sQ, kd_sL, kd_sD, ln_sI, ln_sR, ln_sA, ln_sQ, ln_sL, ln_sD, gI_sR, gI_sA, gI_sQ, gI_sL, gI_sD, gR_sI, gR_sA, gR_sQ, gR_sL, gR_sD, gA_sI, gA_sR, gA_sQ, gA_sL, gA_sD, gQ_sI, gQ_sR, gQ_sA, gQ_sL, gQ_sD, gL_sI, gL_sR, gL_sA, gL_sQ, gL_sD, kd_nO, kd_nA, *]) (by first | assumption | exact gI_sIs | exact gR_sRs | with_reducible rfl | (simp only [kd_sI, kd_sR, kd_sA, kd_sQ, kd_sL, kd_sD, ln_sI, ln_sR, ln_sA, ln_sQ, ln_sL, ln_sD, gI_sR, gI_sA, gI_sQ, gI_sL, gI_sD, gR_sI, gR_sA, gR_sQ, gR_sL, gR_sD, gA_sI, gA_sR, gA_sQ, gA_sL, gA_sD, gQ_sI, gQ_sR, gQ_sA, gQ_sL, gQ_sD, gL_sI, gL_sR, gL_sA, gL_sQ, gL_sD]; first | done | assumption | with_reducible rfl) | rfl) ?_
                refine r_if_le (tgt := 167) dX3_append_160 (by decide) (fun h160 => ?_) (fun h160 => ?_)
                · refine r_aload_n (i := 0) dX3_append_167 rfl rfl ?_
                  refine r_getI dX3_append_168 fR_X3_209 (by first | assumption | (simp only [kd_sI, kd_sR, kd_sA, kd_sQ, kd_sL, kd_sD, ln_sI, ln_sR, ln_sA, ln_sQ, ln_sL, ln_sD, gI_sR, gI_sA, gI_sQ, gI_sL, gI_sD, gR_sI, gR_sA, gR_sQ, gR_sL, gR_sD, gA_sI, gA_sR, gA_sQ, gA_sL, gA_sD, gQ_sI, gQ_sR, gQ_sA, gQ_sL, gQ_sD, gL_sI, gL_sR, gL_sA, gL_sQ, gL_sD]; assumption) | simp [kd_sI, kd_sR, kd_sA, kd_sQ, kd_sL, kd_sD, ln_sI, ln_sR, ln_sA, ln_sQ, ln_sL, ln_sD, gI_sR, gI_sA, gI_sQ, gI_sL, gI_sD, gR_sI, gR_sA, gR_sQ, gR_sL, gR_sD, gA_sI, gA_sR, gA_sQ, gA_sL, gA_sD, gQ_sI, gQ_sR, gQ_sA, gQ_sL, gQ_sD, gL_sI, gL_sR, gL_sA, gL_sQ, gL_sD, kd_nO, kd_nA, *]) (by first | assumption | exact gI_sIs | exact gR_sRs | with_reducible rfl | (simp only [kd_sI, kd_sR, kd_sA, kd_sQ, kd_sL, kd_sD, ln_sI, ln_sR, ln_sA, ln_sQ, ln_sL, ln_sD, gI_sR, gI_sA, gI_sQ, gI_sL, gI_sD, gR_sI, gR_sA, gR_sQ, gR_sL, gR_sD, gA_sI, gA_sR, gA_sQ, gA_sL, gA_sD, gQ_sI, gQ_sR, gQ_sA, gQ_sL, gQ_sD, gL_sI, gL_sR, gL_sA, gL_sQ, gL_sD]; first | done | assumption | with_reducible rfl) | rfl) ?_
                  refine r_ireturn dX3_append_171 rfl (by first | rfl | assumption | exact vp_nar_int _ | exact pk_nc _) ?_
                  rw [List.length_append]
                  exact hQ H2 hU2 h772 hR2
                · exact absurd (by decide) h160
              · exact absurd sv_4 h105
            | succ k ih =>
              intro j H2 o4 hj hU2 h772 hR2
              have hM2 := hM.mf hU2.1
              have e02 := hM2.1
              obtain ⟨e88a_2, e88b_2, e88c_2⟩ : gR H2 88 m = some (ma 88) ∧ kd H2 (ma 88) = 1088 ∧ ln H2 (ma 88) = 60 := hM2.2 88 (by decide)
              obtain ⟨c1, c2, c3, c4⟩ := hR2
              have nx := fun H3 o4 h1 h2 h3 => ih (j + 1) H3 o4 (by omega) h1 h2 h3
              unfold codesB at nx
              refine r_iload_n (i := 3) dX3_append_104 rfl rfl ?_
              refine r_if_lt (tgt := 156) dX3_append_105 (by decide) (fun h105 => ?_) (fun h105 => ?_)
              · exact absurd h105 (sv_pos j (by omega))
              · refine r_aload_n (i := 0) dX3_append_108 rfl rfl ?_
                refine r_getI dX3_append_109 fR_X3_66 (by first | assumption | (simp only [kd_sI, kd_sR, kd_sA, kd_sQ, kd_sL, kd_sD, ln_sI, ln_sR, ln_sA, ln_sQ, ln_sL, ln_sD, gI_sR, gI_sA, gI_sQ, gI_sL, gI_sD, gR_sI, gR_sA, gR_sQ, gR_sL, gR_sD, gA_sI, gA_sR, gA_sQ, gA_sL, gA_sD, gQ_sI, gQ_sR, gQ_sA, gQ_sL, gQ_sD, gL_sI, gL_sR, gL_sA, gL_sQ, gL_sD]; assumption) | simp [kd_sI, kd_sR, kd_sA, kd_sQ, kd_sL, kd_sD, ln_sI, ln_sR, ln_sA, ln_sQ, ln_sL, ln_sD, gI_sR, gI_sA, gI_sQ, gI_sL, gI_sD, gR_sI, gR_sA, gR_sQ, gR_sL, gR_sD, gA_sI, gA_sR, gA_sQ, gA_sL, gA_sD, gQ_sI, gQ_sR, gQ_sA, gQ_sL, gQ_sD, gL_sI, gL_sR, gL_sA, gL_sQ, gL_sD, kd_nO, kd_nA, *]) (by first | assumption | exact gI_sIs | exact gR_sRs | with_reducible rfl | (simp only [kd_sI, kd_sR, kd_sA, kd_sQ, kd_sL, kd_sD, ln_sI, ln_sR, ln_sA, ln_sQ, ln_sL, ln_sD, gI_sR, gI_sA, gI_sQ, gI_sL, gI_sD, gR_sI, gR_sA, gR_sQ, gR_sL, gR_sD, gA_sI, gA_sR, gA_sQ, gA_sL, gA_sD, gQ_sI, gQ_sR, gQ_sA, gQ_sL, gQ_sD, gL_sI, gL_sR, gL_sA, gL_sQ, gL_sD]; first | done | assumption | with_reducible rfl) | rfl) ?_
                refine r_if_ne (tgt := 156) dX3_append_112 (by decide) (fun h112 => ?_) (fun h112 => ?_)
                · exact absurd rfl h112
                · refine r_iload_n (i := 1) dX3_append_115 rfl rfl ?_
                  refine r_iload_n (i := 3) dX3_append_116 rfl rfl ?_
                  refine r_iushr dX3_append_117 ?_
                  refine r_sipush (v := nI 255) dX3_append_118 (by decide) ?_
                  refine r_iand dX3_append_121 ?_
                  refine r_istore dX3_append_122 (Nat.le_of_ble_eq_true rfl) (by simp only [lset]; rfl) ?_
                  refine r_iload dX3_append_124 rfl ?_
                  refine r_if_eq (tgt := 150) dX3_append_126 (by decide) (fun h126 => ?_) (fun h126 => ?_)
                  · have h0 : byt p j = 0 := h126
                    rw [if_pos h0, List.append_nil] at nx
                    refine r_iinc dX3_append_150 rfl (sv_s j (by omega)) (by simp only [lset]; rfl) ?_
                    refine r_goto (tgt := 104) dX3_append_153 (by decide) ?_
                    exact nx H2 _ hU2 h772 ⟨c1, c2, c3, c4⟩
                  · have h0 : ¬ byt p j = 0 := h126
                    rw [if_neg h0] at nx
                    have hmem : (byt p j).toNatClampNeg ∈ codesB p 4 := by
                      have step : ∀ n, j < n → (byt p j).toNatClampNeg ∈ codesB p n := by
                        intro n
                        induction n with
                        | zero => intro h; omega
                        | succ n ihn =>
                          intro h
                          unfold codesB
                          rw [List.mem_append]
                          by_cases hjn : j = n
                          · right
                            rw [← hjn, if_neg h0]
                            exact List.mem_singleton.mpr rfl
                          · exact Or.inl (ihn (by omega))
                      exact step 4 (by omega)
                    have hb9 := hco _ hmem
                    have hbv : byt p j = nI (byt p j).toNatClampNeg := by
                      have h3 : (byt p j).toInt.toNat = (byt p j).toNatClampNeg := rfl
                      apply Int32.toInt_inj.mp
                      rw [nI_toInt (by omega)]
                      omega
                    have hlj : (B ++ codesB p j).length + 1 ≤ 60 := by
                      have mono : ∀ n, j < n → (codesB p j).length + 1 ≤ (codesB p n).length := by
                        intro n
                        induction n with
                        | zero => intro h; omega
                        | succ n ihn =>
                          intro h
                          rw [codesB, List.length_append]
                          by_cases hjn : j = n
                          · rw [← hjn, if_neg h0]
                            simp
                          · have := ihn (by omega); omega
                      have := mono 4 (by omega)
                      rw [List.length_append]
                      omega
                    have hbl : byt p j = byt p j := rfl
                    refine r_aload_n (i := 0) dX3_append_129 rfl rfl ?_
                    refine r_getR dX3_append_130 fR_X3_50 (by first | assumption | (simp only [kd_sI, kd_sR, kd_sA, kd_sQ, kd_sL, kd_sD, ln_sI, ln_sR, ln_sA, ln_sQ, ln_sL, ln_sD, gI_sR, gI_sA, gI_sQ, gI_sL, gI_sD, gR_sI, gR_sA, gR_sQ, gR_sL, gR_sD, gA_sI, gA_sR, gA_sQ, gA_sL, gA_sD, gQ_sI, gQ_sR, gQ_sA, gQ_sL, gQ_sD, gL_sI, gL_sR, gL_sA, gL_sQ, gL_sD]; assumption) | simp [kd_sI, kd_sR, kd_sA, kd_sQ, kd_sL, kd_sD, ln_sI, ln_sR, ln_sA, ln_sQ, ln_sL, ln_sD, gI_sR, gI_sA, gI_sQ, gI_sL, gI_sD, gR_sI, gR_sA, gR_sQ, gR_sL, gR_sD, gA_sI, gA_sR, gA_sQ, gA_sL, gA_sD, gQ_sI, gQ_sR, gQ_sA, gQ_sL, gQ_sD, gL_sI, gL_sR, gL_sA, gL_sQ, gL_sD, kd_nO, kd_nA, *]) (by first | assumption | exact gI_sIs | exact gR_sRs | with_reducible rfl | (simp only [kd_sI, kd_sR, kd_sA, kd_sQ, kd_sL, kd_sD, ln_sI, ln_sR, ln_sA, ln_sQ, ln_sL, ln_sD, gI_sR, gI_sA, gI_sQ, gI_sL, gI_sD, gR_sI, gR_sA, gR_sQ, gR_sL, gR_sD, gA_sI, gA_sR, gA_sQ, gA_sL, gA_sD, gQ_sI, gQ_sR, gQ_sA, gQ_sL, gQ_sD, gL_sI, gL_sR, gL_sA, gL_sQ, gL_sD]; first | done | assumption | with_reducible rfl) | rfl) ?_
                    refine r_aload_n (i := 0) dX3_append_133 rfl rfl ?_
                    refine r_getI dX3_append_134 fR_X3_209 (by first | assumption | (simp only [kd_sI, kd_sR, kd_sA, kd_sQ, kd_sL, kd_sD, ln_sI, ln_sR, ln_sA, ln_sQ, ln_sL, ln_sD, gI_sR, gI_sA, gI_sQ, gI_sL, gI_sD, gR_sI, gR_sA, gR_sQ, gR_sL, gR_sD, gA_sI, gA_sR, gA_sQ, gA_sL, gA_sD, gQ_sI, gQ_sR, gQ_sA, gQ_sL, gQ_sD, gL_sI, gL_sR, gL_sA, gL_sQ, gL_sD]; assumption) | simp [kd_sI, kd_sR, kd_sA, kd_sQ, kd_sL, kd_sD, ln_sI, ln_sR, ln_sA, ln_sQ, ln_sL, ln_sD, gI_sR, gI_sA, gI_sQ, gI_sL, gI_sD, gR_sI, gR_sA, gR_sQ, gR_sL, gR_sD, gA_sI, gA_sR, gA_sQ, gA_sL, gA_sD, gQ_sI, gQ_sR, gQ_sA, gQ_sL, gQ_sD, gL_sI, gL_sR, gL_sA, gL_sQ, gL_sD, kd_nO, kd_nA, *]) (by first | assumption | exact gI_sIs | exact gR_sRs | with_reducible rfl | (simp only [kd_sI, kd_sR, kd_sA, kd_sQ, kd_sL, kd_sD, ln_sI, ln_sR, ln_sA, ln_sQ, ln_sL, ln_sD, gI_sR, gI_sA, gI_sQ, gI_sL, gI_sD, gR_sI, gR_sA, gR_sQ, gR_sL, gR_sD, gA_sI, gA_sR, gA_sQ, gA_sL, gA_sD, gQ_sI, gQ_sR, gQ_sA, gQ_sL, gQ_sD, gL_sI, gL_sR, gL_sA, gL_sQ, gL_sD]; first | done | assumption | with_reducible rfl) | rfl) ?_
                    refine r_iload dX3_append_137 rfl ?_
                    refine r_iast dX3_append_139 (by first | assumption | (simp only [kd_sI, kd_sR, kd_sA, kd_sQ, kd_sL, kd_sD, ln_sI, ln_sR, ln_sA, ln_sQ, ln_sL, ln_sD, gI_sR, gI_sA, gI_sQ, gI_sL, gI_sD, gR_sI, gR_sA, gR_sQ, gR_sL, gR_sD, gA_sI, gA_sR, gA_sQ, gA_sL, gA_sD, gQ_sI, gQ_sR, gQ_sA, gQ_sL, gQ_sD, gL_sI, gL_sR, gL_sA, gL_sQ, gL_sD]; assumption) | simp [kd_sI, kd_sR, kd_sA, kd_sQ, kd_sL, kd_sD, ln_sI, ln_sR, ln_sA, ln_sQ, ln_sL, ln_sD, gI_sR, gI_sA, gI_sQ, gI_sL, gI_sD, gR_sI, gR_sA, gR_sQ, gR_sL, gR_sD, gA_sI, gA_sR, gA_sQ, gA_sL, gA_sD, gQ_sI, gQ_sR, gQ_sA, gQ_sL, gQ_sD, gL_sI, gL_sR, gL_sA, gL_sQ, gL_sD, kd_nO, kd_nA, *]) (by first | decide | assumption) (by first | assumption | exact gI_sIs | exact gR_sRs | with_reducible rfl | (simp only [kd_sI, kd_sR, kd_sA, kd_sQ, kd_sL, kd_sD, ln_sI, ln_sR, ln_sA, ln_sQ, ln_sL, ln_sD, gI_sR, gI_sA, gI_sQ, gI_sL, gI_sD, gR_sI, gR_sA, gR_sQ, gR_sL, gR_sD, gA_sI, gA_sR, gA_sQ, gA_sL, gA_sD, gQ_sI, gQ_sR, gQ_sA, gQ_sL, gQ_sD, gL_sI, gL_sR, gL_sA, gL_sQ, gL_sD]; first | done | assumption | with_reducible rfl) | rfl) (by first | with_reducible rfl | assumption | (simp only [nI_add, pk_mul, nI_1]; with_reducible rfl)) (by first | assumption | omega) (by first | assumption | omega) ?_
                    refine r_aload_n (i := 0) dX3_append_140 rfl rfl ?_
                    refine r_dup dX3_append_141 rfl ?_
                    refine r_getI dX3_append_142 fR_X3_209 (by first | assumption | (simp only [kd_sI, kd_sR, kd_sA, kd_sQ, kd_sL, kd_sD, ln_sI, ln_sR, ln_sA, ln_sQ, ln_sL, ln_sD, gI_sR, gI_sA, gI_sQ, gI_sL, gI_sD, gR_sI, gR_sA, gR_sQ, gR_sL, gR_sD, gA_sI, gA_sR, gA_sQ, gA_sL, gA_sD, gQ_sI, gQ_sR, gQ_sA, gQ_sL, gQ_sD, gL_sI, gL_sR, gL_sA, gL_sQ, gL_sD]; assumption) | simp [kd_sI, kd_sR, kd_sA, kd_sQ, kd_sL, kd_sD, ln_sI, ln_sR, ln_sA, ln_sQ, ln_sL, ln_sD, gI_sR, gI_sA, gI_sQ, gI_sL, gI_sD, gR_sI, gR_sA, gR_sQ, gR_sL, gR_sD, gA_sI, gA_sR, gA_sQ, gA_sL, gA_sD, gQ_sI, gQ_sR, gQ_sA, gQ_sL, gQ_sD, gL_sI, gL_sR, gL_sA, gL_sQ, gL_sD, kd_nO, kd_nA, *]) (by first | assumption | exact gI_sIs | exact gR_sRs | with_reducible rfl | (simp only [kd_sI, kd_sR, kd_sA, kd_sQ, kd_sL, kd_sD, ln_sI, ln_sR, ln_sA, ln_sQ, ln_sL, ln_sD, gI_sR, gI_sA, gI_sQ, gI_sL, gI_sD, gR_sI, gR_sA, gR_sQ, gR_sL, gR_sD, gA_sI, gA_sR, gA_sQ, gA_sL, gA_sD, gQ_sI, gQ_sR, gQ_sA, gQ_sL, gQ_sD, gL_sI, gL_sR, gL_sA, gL_sQ, gL_sD]; first | done | assumption | with_reducible rfl) | rfl) ?_
                    refine r_iconst (v := nI 1) dX3_append_145 (by decide) ?_
                    refine r_iadd dX3_append_146 ?_
                    refine r_putI dX3_append_147 fG_X3_209 (fun _ => by first | rfl | contradiction) (by first | assumption | (simp only [kd_sI, kd_sR, kd_sA, kd_sQ, kd_sL, kd_sD, ln_sI, ln_sR, ln_sA, ln_sQ, ln_sL, ln_sD, gI_sR, gI_sA, gI_sQ, gI_sL, gI_sD, gR_sI, gR_sA, gR_sQ, gR_sL, gR_sD, gA_sI, gA_sR, gA_sQ, gA_sL, gA_sD, gQ_sI, gQ_sR, gQ_sA, gQ_sL, gQ_sD, gL_sI, gL_sR, gL_sA, gL_sQ, gL_sD]; assumption) | simp [kd_sI, kd_sR, kd_sA, kd_sQ, kd_sL, kd_sD, ln_sI, ln_sR, ln_sA, ln_sQ, ln_sL, ln_sD, gI_sR, gI_sA, gI_sQ, gI_sL, gI_sD, gR_sI, gR_sA, gR_sQ, gR_sL, gR_sD, gA_sI, gA_sR, gA_sQ, gA_sL, gA_sD, gQ_sI, gQ_sR, gQ_sA, gQ_sL, gQ_sD, gL_sI, gL_sR, gL_sA, gL_sQ, gL_sD, kd_nO, kd_nA, *]) (by first | rfl | assumption) (by first | rfl | assumption) ?_
                    refine r_iinc dX3_append_150 rfl (sv_s j (by omega)) (by simp only [lset]; rfl) ?_
                    refine r_goto (tgt := 104) dX3_append_153 (by decide) ?_
                    refine nx _ _ ((hU2.sA (f := 88) (Or.inl (by decide)) (by decide) (by decide)).sI (f := 89) (by decide) (by decide) (by decide)) (by rw [gI_sI, if_neg (by omega)]; exact h772) ?_
                    rw [← List.append_assoc]
                    refine ⟨?_, ?_, ?_, ?_⟩
                    · rw [gI_sIs, nI_add, List.length_append (bs := [_])]
                      rfl
                    · rw [List.length_append (bs := [_])]
                      exact hlj
                    · intro k1 hk1
                      rw [List.length_append (bs := [_])] at hk1
                      have hk2 : k1 < (B ++ codesB p j).length + 1 := hk1
                      show gA (sA H2 1088 (ma 88) _) 1088 (ma 88) k1 = _
                      rw [gA_sAs]
                      unfold upd
                      by_cases h : k1 = (B ++ codesB p j).length
                      · rw [if_pos h, h]
                        simp only [List.getD_eq_getElem?_getD]
                        rw [List.getElem?_append_right (Nat.le_refl _), Nat.sub_self]
                        exact hbv
                      · rw [if_neg h, c3 k1 (by omega)]
                        simp only [List.getD_eq_getElem?_getD]
                        rw [List.getElem?_append_left (l₁ := B ++ codesB p j) (by omega)]
                    · intro b hb
                      rw [List.mem_append (t := [_])] at hb
                      rcases hb with hb | hb
                      · exact c4 b hb
                      · rw [List.mem_singleton] at hb
                        rw [hb]
                        exact hb9
          refine loop 4 0 _ _ (by omega) (hU.sI (by decide) (by decide) (by decide)) gI_sIs ?_
          rw [show B ++ codesB p 0 = B by simp [codesB]]
          exact BufR.mu (H := H1) ⟨b1, b2, b3, b4⟩ (fs := [77]) (MU.rf.sI (by decide) (by decide) (by decide)) (by decide) (by decide)
        · rw [nI_add] at h87
          have hgt : ¬ B.length + (codesB p 4).length ≤ 60 := fun q => h87 (nI_le q (by omega))
          rw [if_pos (by omega)] at hQ
          refine r_iconst (v := nI 2) dX3_append_90 (by decide) ?_
          refine r_goto (tgt := 98) dX3_append_91 (by decide) ?_
          refine r_putI dX3_append_98 fG_X3_66 (fun _ => by first | rfl | contradiction) (by first | assumption | (simp only [kd_sI, kd_sR, kd_sA, kd_sQ, kd_sL, kd_sD, ln_sI, ln_sR, ln_sA, ln_sQ, ln_sL, ln_sD, gI_sR, gI_sA, gI_sQ, gI_sL, gI_sD, gR_sI, gR_sA, gR_sQ, gR_sL, gR_sD, gA_sI, gA_sR, gA_sQ, gA_sL, gA_sD, gQ_sI, gQ_sR, gQ_sA, gQ_sL, gQ_sD, gL_sI, gL_sR, gL_sA, gL_sQ, gL_sD]; assumption) | simp [kd_sI, kd_sR, kd_sA, kd_sQ, kd_sL, kd_sD, ln_sI, ln_sR, ln_sA, ln_sQ, ln_sL, ln_sD, gI_sR, gI_sA, gI_sQ, gI_sL, gI_sD, gR_sI, gR_sA, gR_sQ, gR_sL, gR_sD, gA_sI, gA_sR, gA_sQ, gA_sL, gA_sD, gQ_sI, gQ_sR, gQ_sA, gQ_sL, gQ_sD, gL_sI, gL_sR, gL_sA, gL_sQ, gL_sD, kd_nO, kd_nA, *]) (by first | rfl | assumption) (by first | rfl | assumption) ?_
          have hR2 : BufR (sI H1 77 m (nI 2)) m ma B := BufR.mu (H := H1) ⟨b1, b2, b3, b4⟩ (fs := [77]) (MU.rf.sI (by decide) (by decide) (by decide)) (by decide) (by decide)
          have hU2 : MU m ma [77, 88, 89] H (sI H1 77 m (nI 2)) := hU.sI (by decide) (by decide) (by decide)
          exact stop _ 2 (by decide) (by decide) hU2 hR2 gI_sIs (hQ _ hU2 gI_sIs hR2)
  have l1 : ∀ (k j : Nat) (H1 : AH) (o4 : Option AV), j + k = 4 → MU m ma [77, 88, 89] H H1 → BufR H1 m ma B → gI H1 77 m = nI (if anyBad p j then 1 else 0) → AW mX3_append G d Qr Qx 0 0 H1 10 [some (vR (some m)), some (vI p), some (vI (nI (codesB p j).length)), some (vI (sv j)), o4] [] := by
    intro k
    induction k with
    | zero =>
      intro j H1 o4 hj hU hR1 h77
      rw [show j = 4 by omega] at h77 ⊢
      refine r_iload_n (i := 3) dX3_append_10 rfl rfl ?_
      refine r_if_lt (tgt := 71) dX3_append_11 (by decide) (fun h11 => ?_) (fun h11 => ?_)
      · exact l2 H1 _ _ hU hR1 h77
      · exact absurd sv_4 h11
    | succ k ih =>
      intro j H1 o4 hj hU hR1 h77
      have hM1 := hM.mf hU.1
      have e01 := hM1.1
      have nx := fun H3 o4 h1 h2 h3 => ih (j + 1) H3 o4 (by omega) h1 h2 h3
      unfold codesB anyBad at nx
      have cnt : ∀ (H2 : AH), MU m ma [77, 88, 89] H H2 → BufR H2 m ma B → gI H2 77 m = nI (if anyBad p j || badB p j then 1 else 0) → AW mX3_append G d Qr Qx 0 0 H2 52 [some (vR (some m)), some (vI p), some (vI (nI (codesB p j).length)), some (vI (sv j)), some (vI (byt p j))] [] := by
        intro H2 hU2 hR2 h2
        refine r_iload_n (i := 2) dX3_append_52 rfl rfl ?_
        refine r_iload dX3_append_53 rfl ?_
        refine r_if_eq (tgt := 62) dX3_append_55 (by decide) (fun h55 => ?_) (fun h55 => ?_)
        · rw [if_pos h55, List.append_nil] at nx
          refine r_iconst (v := nI 0) dX3_append_62 (by decide) ?_
          refine r_iadd dX3_append_63 ?_
          refine r_istore_n (i := 2) dX3_append_64 rfl (Nat.le_of_ble_eq_true rfl) (by simp only [lset]; rfl) ?_
          rw [show nI (codesB p j).length + nI 0 = nI (codesB p j).length from nI_add _ 0]
          refine r_iinc dX3_append_65 rfl (sv_s j (by omega)) (by simp only [lset]; rfl) ?_
          refine r_goto (tgt := 10) dX3_append_68 (by decide) ?_
          exact nx H2 _ hU2 hR2 h2
        · rw [if_neg h55, List.length_append] at nx
          refine r_iconst (v := nI 1) dX3_append_58 (by decide) ?_
          refine r_goto (tgt := 63) dX3_append_59 (by decide) ?_
          refine r_iadd dX3_append_63 ?_
          refine r_istore_n (i := 2) dX3_append_64 rfl (Nat.le_of_ble_eq_true rfl) (by simp only [lset]; rfl) ?_
          rw [nI_add]
          refine r_iinc dX3_append_65 rfl (sv_s j (by omega)) (by simp only [lset]; rfl) ?_
          refine r_goto (tgt := 10) dX3_append_68 (by decide) ?_
          exact nx H2 _ hU2 hR2 h2
      have keep : badB p j = false → AW mX3_append G d Qr Qx 0 0 H1 45 [some (vR (some m)), some (vI p), some (vI (nI (codesB p j).length)), some (vI (sv j)), some (vI (byt p j))] [vR (some m)] := by
        intro hb
        refine r_aload_n (i := 0) dX3_append_45 rfl rfl ?_
        refine r_getI dX3_append_46 fR_X3_66 (by first | assumption | (simp only [kd_sI, kd_sR, kd_sA, kd_sQ, kd_sL, kd_sD, ln_sI, ln_sR, ln_sA, ln_sQ, ln_sL, ln_sD, gI_sR, gI_sA, gI_sQ, gI_sL, gI_sD, gR_sI, gR_sA, gR_sQ, gR_sL, gR_sD, gA_sI, gA_sR, gA_sQ, gA_sL, gA_sD, gQ_sI, gQ_sR, gQ_sA, gQ_sL, gQ_sD, gL_sI, gL_sR, gL_sA, gL_sQ, gL_sD]; assumption) | simp [kd_sI, kd_sR, kd_sA, kd_sQ, kd_sL, kd_sD, ln_sI, ln_sR, ln_sA, ln_sQ, ln_sL, ln_sD, gI_sR, gI_sA, gI_sQ, gI_sL, gI_sD, gR_sI, gR_sA, gR_sQ, gR_sL, gR_sD, gA_sI, gA_sR, gA_sQ, gA_sL, gA_sD, gQ_sI, gQ_sR, gQ_sA, gQ_sL, gQ_sD, gL_sI, gL_sR, gL_sA, gL_sQ, gL_sD, kd_nO, kd_nA, *]) (by first | assumption | exact gI_sIs | exact gR_sRs | with_reducible rfl | (simp only [kd_sI, kd_sR, kd_sA, kd_sQ, kd_sL, kd_sD, ln_sI, ln_sR, ln_sA, ln_sQ, ln_sL, ln_sD, gI_sR, gI_sA, gI_sQ, gI_sL, gI_sD, gR_sI, gR_sA, gR_sQ, gR_sL, gR_sD, gA_sI, gA_sR, gA_sQ, gA_sL, gA_sD, gQ_sI, gQ_sR, gQ_sA, gQ_sL, gQ_sD, gL_sI, gL_sR, gL_sA, gL_sQ, gL_sD]; first | done | assumption | with_reducible rfl) | rfl) ?_
        refine r_putI dX3_append_49 fG_X3_66 (fun _ => by first | rfl | contradiction) (by first | assumption | (simp only [kd_sI, kd_sR, kd_sA, kd_sQ, kd_sL, kd_sD, ln_sI, ln_sR, ln_sA, ln_sQ, ln_sL, ln_sD, gI_sR, gI_sA, gI_sQ, gI_sL, gI_sD, gR_sI, gR_sA, gR_sQ, gR_sL, gR_sD, gA_sI, gA_sR, gA_sQ, gA_sL, gA_sD, gQ_sI, gQ_sR, gQ_sA, gQ_sL, gQ_sD, gL_sI, gL_sR, gL_sA, gL_sQ, gL_sD]; assumption) | simp [kd_sI, kd_sR, kd_sA, kd_sQ, kd_sL, kd_sD, ln_sI, ln_sR, ln_sA, ln_sQ, ln_sL, ln_sD, gI_sR, gI_sA, gI_sQ, gI_sL, gI_sD, gR_sI, gR_sA, gR_sQ, gR_sL, gR_sD, gA_sI, gA_sR, gA_sQ, gA_sL, gA_sD, gQ_sI, gQ_sR, gQ_sA, gQ_sL, gQ_sD, gL_sI, gL_sR, gL_sA, gL_sQ, gL_sD, kd_nO, kd_nA, *]) (by first | rfl | assumption) (by first | rfl | assumption) ?_
        exact cnt _ (hU.sI (by decide) (by decide) (by decide)) (hR1.mu (fs := [77]) (MU.rf.sI (by decide) (by decide) (by decide)) (by decide) (by decide)) (by rw [gI_sIs, hb, Bool.or_false])
      refine r_iload_n (i := 3) dX3_append_10 rfl rfl ?_
      refine r_if_lt (tgt := 71) dX3_append_11 (by decide) (fun h11 => ?_) (fun h11 => ?_)
      · exact absurd h11 (sv_pos j (by omega))
      · refine r_iload_n (i := 1) dX3_append_14 rfl rfl ?_
        refine r_iload_n (i := 3) dX3_append_15 rfl rfl ?_
        refine r_iushr dX3_append_16 ?_
        refine r_sipush (v := nI 255) dX3_append_17 (by decide) ?_
        refine r_iand dX3_append_20 ?_
        refine r_istore dX3_append_21 (Nat.le_of_ble_eq_true rfl) (by simp only [lset]; rfl) ?_
        show AW mX3_append G d Qr Qx 0 0 H1 23 [some (vR (some m)), some (vI p), some (vI (nI (codesB p j).length)), some (vI (sv j)), some (vI (byt p j))] []
        refine r_aload_n (i := 0) dX3_append_23 rfl rfl ?_
        refine r_iload dX3_append_24 rfl ?_
        refine r_if_eq (tgt := 45) dX3_append_26 (by decide) (fun h26 => ?_) (fun h26 => ?_)
        · refine keep ?_
          unfold badB
          rw [h26]
          rfl
        · refine r_iload dX3_append_29 rfl ?_
          refine r_bipush (v := nI 32) dX3_append_31 (by decide) ?_
          refine r_bipush (v := nI 126) dX3_append_33 (by decide) ?_
          refine r_callS (As := [_, _, _]) (mc' := 0) (ms' := 0) dX3_append_35 k_X3_90 rfl (by first | assumption | omega) (by first | assumption | omega) (by first | assumption | omega) (Nat.le_of_ble_eq_true rfl) ?_
          refine s_in ?_
          refine r_if_ne (tgt := 45) dX3_append_38 (by decide) (fun h38 => ?_) (fun h38 => ?_)
          · refine keep ?_
            unfold badB inB
            rw [bI_ne0 h38]
            simp
          · refine r_iconst (v := nI 1) dX3_append_41 (by decide) ?_
            refine r_goto (tgt := 49) dX3_append_42 (by decide) ?_
            refine r_putI dX3_append_49 fG_X3_66 (fun _ => by first | rfl | contradiction) (by first | assumption | (simp only [kd_sI, kd_sR, kd_sA, kd_sQ, kd_sL, kd_sD, ln_sI, ln_sR, ln_sA, ln_sQ, ln_sL, ln_sD, gI_sR, gI_sA, gI_sQ, gI_sL, gI_sD, gR_sI, gR_sA, gR_sQ, gR_sL, gR_sD, gA_sI, gA_sR, gA_sQ, gA_sL, gA_sD, gQ_sI, gQ_sR, gQ_sA, gQ_sL, gQ_sD, gL_sI, gL_sR, gL_sA, gL_sQ, gL_sD]; assumption) | simp [kd_sI, kd_sR, kd_sA, kd_sQ, kd_sL, kd_sD, ln_sI, ln_sR, ln_sA, ln_sQ, ln_sL, ln_sD, gI_sR, gI_sA, gI_sQ, gI_sL, gI_sD, gR_sI, gR_sA, gR_sQ, gR_sL, gR_sD, gA_sI, gA_sR, gA_sQ, gA_sL, gA_sD, gQ_sI, gQ_sR, gQ_sA, gQ_sL, gQ_sD, gL_sI, gL_sR, gL_sA, gL_sQ, gL_sD, kd_nO, kd_nA, *]) (by first | rfl | assumption) (by first | rfl | assumption) ?_
            refine cnt _ (hU.sI (by decide) (by decide) (by decide)) (hR1.mu (fs := [77]) (MU.rf.sI (by decide) (by decide) (by decide)) (by decide) (by decide)) ?_
            rw [gI_sIs, show badB p j = true by unfold badB inB; rw [bI_eq0.mp h38, beq_eq_false_iff_ne.mpr h26]; rfl, Bool.or_true]
            rfl
  exact l1 4 0 _ none (by omega) (MU.rf.sI (by decide) (by decide) (by decide)) (hR.mu (fs := [77]) (MU.rf.sI (by decide) (by decide) (by decide)) (by decide) (by decide)) gI_sIs
end Mo19
