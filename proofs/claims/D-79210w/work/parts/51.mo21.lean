set_option maxRecDepth 100000
abbrev Itm : Type := Nat × List Nat × List Nat
def bnd {α β : Type} (r : Option α × Nat) (f : α → Nat → Option β × Nat) : Option β × Nat := match r with
  | (none, q) => (none, q)
  | (some a, q) => f a q
def pK (B : List Nat) (p : Nat) : Option Itm × Nat := bnd (pName B p) fun nm p => bnd (tk B 58 58 p) fun _ p => bnd (tk B 48 57 p) fun v2 p => bnd (tk B 44 44 p) fun _ p => bnd (pNum B p) fun v4 p => (some ⟨107, nm, [v2, v4]⟩, p)
def pT (B : List Nat) (p : Nat) : Option Itm × Nat := bnd (tk B 48 57 p) fun v0 p => bnd (tk B 45 45 p) fun _ p => bnd (tk B 48 57 p) fun v2 p => bnd (tk B 58 58 p) fun _ p => bnd (pNum B p) fun v4 p => bnd (tk B 44 44 p) fun _ p => bnd (pNum B p) fun v6 p => bnd (tk B 44 44 p) fun _ p => bnd (tk B 48 57 p) fun v8 p => (some ⟨116, [], [v0, v2, v4, v6, v8]⟩, p)
def pC (B : List Nat) (p : Nat) : Option Itm × Nat := bnd (pName B p) fun nm p => bnd (tk B 58 58 p) fun _ p => bnd (tk B 48 57 p) fun v2 p => bnd (tk B 45 45 p) fun _ p => bnd (tk B 48 57 p) fun v4 p => (some ⟨99, nm, [v2, v4]⟩, p)
def pD (B : List Nat) (p : Nat) : Option Itm × Nat := bnd (pName B p) fun nm p => bnd (tk B 61 61 p) fun _ p => bnd (pNum B p) fun v2 p => (some ⟨100, nm, [v2]⟩, p)
def pItem (B : List Nat) (p : Nat) : Option Itm × Nat := if inR B p 107 107 = true then pK B (p + 1) else if inR B p 116 116 = true then pT B (p + 1) else if inR B p 99 99 = true then pC B (p + 1) else if inR B p 100 100 = true then pD B (p + 1) else (none, p)
def ToldR (T : Nat → Int32) (i : Nat) (it : Itm) : Prop := T (10 * i) = nI it.1 ∧ T (10 * i + 1) = nI (it.2.1.getD 0 0) ∧ T (10 * i + 2) = nI (it.2.1.getD 1 0) ∧ T (10 * i + 3) = nI (it.2.1.getD 2 0) ∧ T (10 * i + 4) = nI it.2.1.length ∧ T (10 * i + 5) = nI (it.2.2.getD 0 0) ∧ T (10 * i + 6) = nI (it.2.2.getD 1 0) ∧ T (10 * i + 7) = nI (it.2.2.getD 2 0) ∧ T (10 * i + 8) = nI (it.2.2.getD 3 0) ∧ T (10 * i + 9) = nI (it.2.2.getD 4 0)
def PItem (m : Nat) (ma : Nat → Nat) (Qr : Option AV → AH → Prop) (H : AH) (i : Nat) (r : Option Itm × Nat) : Prop := ∀ H', MU m ma [90, 93, 94] H H' → gI H' 90 m = nI r.2 → (∀ it, r.1 = some it → gI H' 94 m = nI (i + 1) ∧ ToldR (gA H' 1093 (ma 93)) i it ∧ ∀ j, j < 10 * i → gA H' 1093 (ma 93) j = gA H 1093 (ma 93) j) → Qr (some (vI (bI r.1.isSome))) H'
theorem tk_some {B : List Nat} {lo hi p v q : Nat} (h : tk B lo hi p = (some v, q)) : q ≤ B.length ∧ q = p + 1 := by
  unfold tk at h
  cases hi2 : inR B p lo hi with
  | true => rw [hi2] at h; cases h; exact ⟨(here_c hi2).1, rfl⟩
  | false => rw [hi2] at h; cases h
theorem numLp_le {B : List Nat} : ∀ (k n p : Nat), p ≤ B.length → p ≤ (numLp B k n p).2 ∧ (numLp B k n p).2 ≤ B.length := by
  intro k
  induction k with
  | zero => intro n p h; exact ⟨Nat.le_refl _, h⟩
  | succ k ih =>
    intro n p h
    unfold numLp
    by_cases hc : 0 < n ∧ inR B p 48 57 = true
    · rw [if_pos hc]
      have := (here_c hc.2).1
      have := ih (10 * n + (B.getD p 0 - 48)) (p + 1) (by omega)
      omega
    · rw [if_neg hc]
      exact ⟨Nat.le_refl _, h⟩
theorem pNum_some {B : List Nat} {p v q : Nat} (h : pNum B p = (some v, q)) : q ≤ B.length ∧ p < q := by
  unfold pNum at h
  cases hi2 : inR B p 48 57 with
  | true =>
    rw [hi2] at h
    cases h
    have := numLp_le 2 (B.getD p 0 - 48) (p + 1) (here_c hi2).1
    omega
  | false => rw [hi2] at h; cases h
theorem pName_some {B : List Nat} {p q : Nat} {nm : List Nat} (h : pName B p = (some nm, q)) : q ≤ B.length ∧ p < q := by
  unfold pName at h
  by_cases hc : namLp B 3 p = p
  · rw [if_pos hc] at h; cases h
  · rw [if_neg hc] at h
    have hp : p < B.length := by
      unfold namLp at hc
      cases hi2 : inR B p 97 122 with
      | true => exact (here_c hi2).1
      | false => rw [hi2] at hc; exact absurd rfl hc
    have := namLp_le (B := B) 3 p
    cases h
    omega
theorem nameT_k {T : Nat → Int32} {nm : List Nat} {a k i : Nat} (h3 : nm.length ≤ 3) (hk : k < 3) (hz : T (a + 1 + k) = nI 0) (hi : i = a + 1 + k) : nameT T nm a i = nI (nm.getD k 0) := by
  subst hi
  unfold nameT
  rw [if_neg (by omega)]
  by_cases h : k < nm.length
  · rw [if_pos (by omega), Nat.add_sub_cancel_left]
  · rw [if_neg (by omega), hz]
    simp [show nm.length ≤ k by omega]
theorem nameT_4 {T : Nat → Int32} {nm : List Nat} {a : Nat} : nameT T nm a (a + 4) = nI nm.length := by
  unfold nameT
  rw [if_pos rfl]
theorem nameT_o {T : Nat → Int32} {nm : List Nat} {a i : Nat} (h3 : nm.length ≤ 3) (hi : i ≤ a ∨ a + 5 ≤ i) : nameT T nm a i = T i := by
  unfold nameT
  rw [if_neg (by omega), if_neg (by omega)]
section Mo21
variable {G : Gl} {d m : Nat} {ma : Nat → Nat} {Qr : Option AV → AH → Prop} {Qx : String → Nat → AH → Prop} {H : AH}
theorem itemK {B : List Nat} {p i : Nat} {K0 : AH} {T1 : Nat → Int32} {o2 : Option AV} (hd : 3 ≤ d) (hM : MO H m ma) (hR : BufR H m ma B) (hi : i ≤ 31) (hU0 : MU m ma [90, 93, 94] H K0) (hS0 : gI K0 90 m = nI p) (hp0 : p ≤ 60) (hT0 : gA K0 1093 (ma 93) = T1) (h940 : gI K0 94 m = nI (i + 1)) (hsg : T1 (10 * i) = nI 107) (hz : ∀ j, 1 ≤ j → j < 10 → T1 (10 * i + j) = nI 0) (ho : ∀ j, j < 10 * i → T1 j = gA H 1093 (ma 93) j) (hQ : PItem m ma Qr H i (pK B p)) : AW mX3_item G d Qr Qx 0 0 K0 60 [some (vR (some m)), some (vI (nI (10 * i))), o2] [] := by
  have hb2 := hR.2.1
  unfold pK at hQ
  have hM0 := hM.mf hU0.1
  have e00 := hM0.1
  have hR0 := hR.mu hU0 (by decide) (by decide)
  refine r_aload_n (i := 0) dX3_item_60 rfl rfl ?_
  refine r_iload_n (i := 1) dX3_item_61 rfl rfl ?_
  refine r_callV (As := [_]) (mc' := 0) (ms' := 0) dX3_item_62 k_X3_236 rfl (by first | assumption | (simp only [kd_sI, kd_sR, kd_sA, kd_sQ, kd_sL, kd_sD, ln_sI, ln_sR, ln_sA, ln_sQ, ln_sL, ln_sD, gI_sR, gI_sA, gI_sQ, gI_sL, gI_sD, gR_sI, gR_sA, gR_sQ, gR_sL, gR_sD, gA_sI, gA_sR, gA_sQ, gA_sL, gA_sD, gQ_sI, gQ_sR, gQ_sA, gQ_sL, gQ_sD, gL_sI, gL_sR, gL_sA, gL_sQ, gL_sD]; assumption) | simp [kd_sI, kd_sR, kd_sA, kd_sQ, kd_sL, kd_sD, ln_sI, ln_sR, ln_sA, ln_sQ, ln_sL, ln_sD, gI_sR, gI_sA, gI_sQ, gI_sL, gI_sD, gR_sI, gR_sA, gR_sQ, gR_sL, gR_sD, gA_sI, gA_sR, gA_sQ, gA_sL, gA_sD, gQ_sI, gQ_sR, gQ_sA, gQ_sL, gQ_sD, gL_sI, gL_sR, gL_sA, gL_sQ, gL_sD, kd_nO, kd_nA, *]) (T := TX3) (N := 27) rfl (by first | assumption | omega) (by first | assumption | omega) (by first | assumption | omega) (Nat.le_of_ble_eq_true rfl) ?_
  refine s_name (B := B) (p := p) (a := 10 * i) (by omega) hM0 hR0 hS0 hp0 (by omega) ?_
  intro K1 hV1 hS1 hW1
  have hU1 : MU m ma [90, 93, 94] H K1 := (hU0.tr hV1).sub (by decide)
  have hM1 := hM.mf hU1.1
  have e01 := hM1.1
  have hR1 := hR.mu hU1 (by decide) (by decide)
  have h941 : gI K1 94 m = nI (i + 1) := by rw [(hV1.2 94 (by decide)).1]; exact h940
  show AW mX3_item G d Qr Qx _ _ K1 65 _ _
  rcases ht1 : pName B p with ⟨o11, q1⟩
  rw [ht1] at hS1 hW1 hQ
  cases o11 with
  | none =>
    refine r_if_eq (tgt := 111) dX3_item_65 (by decide) (fun h65 => ?_) (fun h65 => ?_)
    · refine r_iconst (v := nI 0) dX3_item_111 (by decide) ?_
      refine r_ireturn dX3_item_112 rfl (by first | rfl | assumption | exact vp_nar_int _ | exact pk_nc _) ?_
      exact hQ K1 hU1 hS1 (fun it hit => by cases hit)
    · exact absurd rfl h65
  | some nm =>
    have hp1 : q1 ≤ 60 := by have := (pName_some ht1).1; omega
    obtain ⟨hT1, hn3⟩ := hW1 nm rfl
    rw [hT0] at hT1
    simp only [bnd] at hQ
    refine r_if_eq (tgt := 111) dX3_item_65 (by decide) (fun h65 => ?_) (fun h65 => ?_)
    · exact absurd h65 (by show ¬ nI 1 = 0; decide)
    · skip
      refine r_aload_n (i := 0) dX3_item_68 rfl rfl ?_
      refine r_bipush (v := nI 58) dX3_item_69 (by decide) ?_
      refine r_callV (As := [_]) (mc' := 0) (ms' := 0) dX3_item_71 k_X3_233 rfl (by first | assumption | (simp only [kd_sI, kd_sR, kd_sA, kd_sQ, kd_sL, kd_sD, ln_sI, ln_sR, ln_sA, ln_sQ, ln_sL, ln_sD, gI_sR, gI_sA, gI_sQ, gI_sL, gI_sD, gR_sI, gR_sA, gR_sQ, gR_sL, gR_sD, gA_sI, gA_sR, gA_sQ, gA_sL, gA_sD, gQ_sI, gQ_sR, gQ_sA, gQ_sL, gQ_sD, gL_sI, gL_sR, gL_sA, gL_sQ, gL_sD]; assumption) | simp [kd_sI, kd_sR, kd_sA, kd_sQ, kd_sL, kd_sD, ln_sI, ln_sR, ln_sA, ln_sQ, ln_sL, ln_sD, gI_sR, gI_sA, gI_sQ, gI_sL, gI_sD, gR_sI, gR_sA, gR_sQ, gR_sL, gR_sD, gA_sI, gA_sR, gA_sQ, gA_sL, gA_sD, gQ_sI, gQ_sR, gQ_sA, gQ_sL, gQ_sD, gL_sI, gL_sR, gL_sA, gL_sQ, gL_sD, kd_nO, kd_nA, *]) (T := TX3) (N := 27) rfl (by first | assumption | omega) (by first | assumption | omega) (by first | assumption | omega) (Nat.le_of_ble_eq_true rfl) ?_
      refine s_skips (B := B) (p := q1) (c := 58) (by omega) hM1 hR1 hS1 hp1 (by decide) ?_
      intro K2 hV2 hS2
      have hU2 : MU m ma [90, 93, 94] H K2 := (hU1.tr hV2).sub (by decide)
      have hM2 := hM.mf hU2.1
      have e02 := hM2.1
      have hR2 := hR.mu hU2 (by decide) (by decide)
      have h942 : gI K2 94 m = nI (i + 1) := by rw [(hV2.2 94 (by decide)).1]; exact h941
      show AW mX3_item G d Qr Qx _ _ K2 74 _ _
      rcases ht2 : tk B 58 58 q1 with ⟨o12, q2⟩
      rw [ht2] at hS2 hQ
      cases o12 with
      | none =>
        refine r_if_eq (tgt := 111) dX3_item_74 (by decide) (fun h74 => ?_) (fun h74 => ?_)
        · refine r_iconst (v := nI 0) dX3_item_111 (by decide) ?_
          refine r_ireturn dX3_item_112 rfl (by first | rfl | assumption | exact vp_nar_int _ | exact pk_nc _) ?_
          exact hQ K2 hU2 hS2 (fun it hit => by cases hit)
        · exact absurd rfl h74
      | some w1 =>
        have hp2 : q2 ≤ 60 := by have := (tk_some ht2).1; omega
        have hT2 : gA K2 1093 (ma 93) = (nameT T1 nm (10 * i)) := by rw [show gA K2 1093 = gA K1 1093 from (hV2.2 93 (by decide)).2]; exact hT1
        simp only [bnd] at hQ
        refine r_if_eq (tgt := 111) dX3_item_74 (by decide) (fun h74 => ?_) (fun h74 => ?_)
        · exact absurd h74 (by show ¬ nI 1 = 0; decide)
        · skip
          refine r_aload_n (i := 0) dX3_item_77 rfl rfl ?_
          refine r_iload_n (i := 1) dX3_item_78 rfl rfl ?_
          refine r_iconst (v := nI 5) dX3_item_79 (by decide) ?_
          refine r_iadd dX3_item_80 ?_
          try simp only [nI_add, pk_mul, nI_1]
          refine r_callV (As := [_]) (mc' := 0) (ms' := 0) dX3_item_81 k_X3_227 rfl (by first | assumption | (simp only [kd_sI, kd_sR, kd_sA, kd_sQ, kd_sL, kd_sD, ln_sI, ln_sR, ln_sA, ln_sQ, ln_sL, ln_sD, gI_sR, gI_sA, gI_sQ, gI_sL, gI_sD, gR_sI, gR_sA, gR_sQ, gR_sL, gR_sD, gA_sI, gA_sR, gA_sQ, gA_sL, gA_sD, gQ_sI, gQ_sR, gQ_sA, gQ_sL, gQ_sD, gL_sI, gL_sR, gL_sA, gL_sQ, gL_sD]; assumption) | simp [kd_sI, kd_sR, kd_sA, kd_sQ, kd_sL, kd_sD, ln_sI, ln_sR, ln_sA, ln_sQ, ln_sL, ln_sD, gI_sR, gI_sA, gI_sQ, gI_sL, gI_sD, gR_sI, gR_sA, gR_sQ, gR_sL, gR_sD, gA_sI, gA_sR, gA_sQ, gA_sL, gA_sD, gQ_sI, gQ_sR, gQ_sA, gQ_sL, gQ_sD, gL_sI, gL_sR, gL_sA, gL_sQ, gL_sD, kd_nO, kd_nA, *]) (T := TX3) (N := 27) rfl (by first | assumption | omega) (by first | assumption | omega) (by first | assumption | omega) (Nat.le_of_ble_eq_true rfl) ?_
          refine s_digit (B := B) (p := q2) (a := 10 * i + 5) (by omega) hM2 hR2 hS2 hp2 (by omega) ?_
          intro K3 hV3 hS3 hW3
          have hU3 : MU m ma [90, 93, 94] H K3 := (hU2.tr hV3).sub (by decide)
          have hM3 := hM.mf hU3.1
          have e03 := hM3.1
          have hR3 := hR.mu hU3 (by decide) (by decide)
          have h943 : gI K3 94 m = nI (i + 1) := by rw [(hV3.2 94 (by decide)).1]; exact h942
          show AW mX3_item G d Qr Qx _ _ K3 84 _ _
          rcases ht3 : tk B 48 57 q2 with ⟨o13, q3⟩
          rw [ht3] at hS3 hW3 hQ
          cases o13 with
          | none =>
            refine r_if_eq (tgt := 111) dX3_item_84 (by decide) (fun h84 => ?_) (fun h84 => ?_)
            · refine r_iconst (v := nI 0) dX3_item_111 (by decide) ?_
              refine r_ireturn dX3_item_112 rfl (by first | rfl | assumption | exact vp_nar_int _ | exact pk_nc _) ?_
              exact hQ K3 hU3 hS3 (fun it hit => by cases hit)
            · exact absurd rfl h84
          | some v2 =>
            have hp3 : q3 ≤ 60 := by have := (tk_some ht3).1; omega
            have hT3 := hW3 v2 rfl
            rw [hT2] at hT3
            simp only [bnd] at hQ
            refine r_if_eq (tgt := 111) dX3_item_84 (by decide) (fun h84 => ?_) (fun h84 => ?_)
            · exact absurd h84 (by show ¬ nI 1 = 0; decide)
            · skip
              refine r_aload_n (i := 0) dX3_item_87 rfl rfl ?_
              refine r_bipush (v := nI 44) dX3_item_88 (by decide) ?_
              refine r_callV (As := [_]) (mc' := 0) (ms' := 0) dX3_item_90 k_X3_233 rfl (by first | assumption | (simp only [kd_sI, kd_sR, kd_sA, kd_sQ, kd_sL, kd_sD, ln_sI, ln_sR, ln_sA, ln_sQ, ln_sL, ln_sD, gI_sR, gI_sA, gI_sQ, gI_sL, gI_sD, gR_sI, gR_sA, gR_sQ, gR_sL, gR_sD, gA_sI, gA_sR, gA_sQ, gA_sL, gA_sD, gQ_sI, gQ_sR, gQ_sA, gQ_sL, gQ_sD, gL_sI, gL_sR, gL_sA, gL_sQ, gL_sD]; assumption) | simp [kd_sI, kd_sR, kd_sA, kd_sQ, kd_sL, kd_sD, ln_sI, ln_sR, ln_sA, ln_sQ, ln_sL, ln_sD, gI_sR, gI_sA, gI_sQ, gI_sL, gI_sD, gR_sI, gR_sA, gR_sQ, gR_sL, gR_sD, gA_sI, gA_sR, gA_sQ, gA_sL, gA_sD, gQ_sI, gQ_sR, gQ_sA, gQ_sL, gQ_sD, gL_sI, gL_sR, gL_sA, gL_sQ, gL_sD, kd_nO, kd_nA, *]) (T := TX3) (N := 27) rfl (by first | assumption | omega) (by first | assumption | omega) (by first | assumption | omega) (Nat.le_of_ble_eq_true rfl) ?_
              refine s_skips (B := B) (p := q3) (c := 44) (by omega) hM3 hR3 hS3 hp3 (by decide) ?_
              intro K4 hV4 hS4
              have hU4 : MU m ma [90, 93, 94] H K4 := (hU3.tr hV4).sub (by decide)
              have hM4 := hM.mf hU4.1
              have e04 := hM4.1
              have hR4 := hR.mu hU4 (by decide) (by decide)
              have h944 : gI K4 94 m = nI (i + 1) := by rw [(hV4.2 94 (by decide)).1]; exact h943
              show AW mX3_item G d Qr Qx _ _ K4 93 _ _
              rcases ht4 : tk B 44 44 q3 with ⟨o14, q4⟩
              rw [ht4] at hS4 hQ
              cases o14 with
              | none =>
                refine r_if_eq (tgt := 111) dX3_item_93 (by decide) (fun h93 => ?_) (fun h93 => ?_)
                · refine r_iconst (v := nI 0) dX3_item_111 (by decide) ?_
                  refine r_ireturn dX3_item_112 rfl (by first | rfl | assumption | exact vp_nar_int _ | exact pk_nc _) ?_
                  exact hQ K4 hU4 hS4 (fun it hit => by cases hit)
                · exact absurd rfl h93
              | some w3 =>
                have hp4 : q4 ≤ 60 := by have := (tk_some ht4).1; omega
                have hT4 : gA K4 1093 (ma 93) = (upd (nameT T1 nm (10 * i)) (10 * i + 5) (nI v2)) := by rw [show gA K4 1093 = gA K3 1093 from (hV4.2 93 (by decide)).2]; exact hT3
                simp only [bnd] at hQ
                refine r_if_eq (tgt := 111) dX3_item_93 (by decide) (fun h93 => ?_) (fun h93 => ?_)
                · exact absurd h93 (by show ¬ nI 1 = 0; decide)
                · skip
                  refine r_aload_n (i := 0) dX3_item_96 rfl rfl ?_
                  refine r_iload_n (i := 1) dX3_item_97 rfl rfl ?_
                  refine r_bipush (v := nI 6) dX3_item_98 (by decide) ?_
                  refine r_iadd dX3_item_100 ?_
                  try simp only [nI_add, pk_mul, nI_1]
                  refine r_callV (As := [_]) (mc' := 0) (ms' := 0) dX3_item_101 k_X3_239 rfl (by first | assumption | (simp only [kd_sI, kd_sR, kd_sA, kd_sQ, kd_sL, kd_sD, ln_sI, ln_sR, ln_sA, ln_sQ, ln_sL, ln_sD, gI_sR, gI_sA, gI_sQ, gI_sL, gI_sD, gR_sI, gR_sA, gR_sQ, gR_sL, gR_sD, gA_sI, gA_sR, gA_sQ, gA_sL, gA_sD, gQ_sI, gQ_sR, gQ_sA, gQ_sL, gQ_sD, gL_sI, gL_sR, gL_sA, gL_sQ, gL_sD]; assumption) | simp [kd_sI, kd_sR, kd_sA, kd_sQ, kd_sL, kd_sD, ln_sI, ln_sR, ln_sA, ln_sQ, ln_sL, ln_sD, gI_sR, gI_sA, gI_sQ, gI_sL, gI_sD, gR_sI, gR_sA, gR_sQ, gR_sL, gR_sD, gA_sI, gA_sR, gA_sQ, gA_sL, gA_sD, gQ_sI, gQ_sR, gQ_sA, gQ_sL, gQ_sD, gL_sI, gL_sR, gL_sA, gL_sQ, gL_sD, kd_nO, kd_nA, *]) (T := TX3) (N := 27) rfl (by first | assumption | omega) (by first | assumption | omega) (by first | assumption | omega) (Nat.le_of_ble_eq_true rfl) ?_
                  refine s_number (B := B) (p := q4) (a := 10 * i + 6) (by omega) hM4 hR4 hS4 hp4 (by omega) ?_
                  intro K5 hV5 hS5 hW5
                  have hU5 : MU m ma [90, 93, 94] H K5 := (hU4.tr hV5).sub (by decide)
                  have hM5 := hM.mf hU5.1
                  have e05 := hM5.1
                  have hR5 := hR.mu hU5 (by decide) (by decide)
                  have h945 : gI K5 94 m = nI (i + 1) := by rw [(hV5.2 94 (by decide)).1]; exact h944
                  show AW mX3_item G d Qr Qx _ _ K5 104 _ _
                  rcases ht5 : pNum B q4 with ⟨o15, q5⟩
                  rw [ht5] at hS5 hW5 hQ
                  cases o15 with
                  | none =>
                    refine r_if_eq (tgt := 111) dX3_item_104 (by decide) (fun h104 => ?_) (fun h104 => ?_)
                    · refine r_iconst (v := nI 0) dX3_item_111 (by decide) ?_
                      refine r_ireturn dX3_item_112 rfl (by first | rfl | assumption | exact vp_nar_int _ | exact pk_nc _) ?_
                      exact hQ K5 hU5 hS5 (fun it hit => by cases hit)
                    · exact absurd rfl h104
                  | some v4 =>
                    have hp5 : q5 ≤ 60 := by have := (pNum_some ht5).1; omega
                    have hT5 := hW5 v4 rfl
                    rw [hT4] at hT5
                    simp only [bnd] at hQ
                    refine r_if_eq (tgt := 111) dX3_item_104 (by decide) (fun h104 => ?_) (fun h104 => ?_)
                    · exact absurd h104 (by show ¬ nI 1 = 0; decide)
                    · skip
                      refine r_iconst (v := nI 1) dX3_item_107 (by decide) ?_
                      refine r_goto (tgt := 112) dX3_item_108 (by decide) ?_
                      refine r_ireturn dX3_item_112 rfl (by first | rfl | assumption | exact vp_nar_int _ | exact pk_nc _) ?_
                      refine hQ K5 hU5 hS5 (fun it hit => ?_)
                      cases hit
                      refine ⟨h945, ?_, ?_⟩
                      · rw [hT5]
                        refine ⟨?_, ?_, ?_, ?_, ?_, ?_, ?_, ?_, ?_, ?_⟩
                        · repeat (first | rw [upd_s] | rw [upd_n (by omega)])
                          rw [nameT_o hn3 (by omega)]; exact hsg
                        · repeat (first | rw [upd_s] | rw [upd_n (by omega)])
                          exact nameT_k hn3 (k := 0) (by decide) (hz 1 (by decide) (by decide)) rfl
                        · repeat (first | rw [upd_s] | rw [upd_n (by omega)])
                          exact nameT_k hn3 (k := 1) (by decide) (hz 2 (by decide) (by decide)) rfl
                        · repeat (first | rw [upd_s] | rw [upd_n (by omega)])
                          exact nameT_k hn3 (k := 2) (by decide) (hz 3 (by decide) (by decide)) rfl
                        · repeat (first | rw [upd_s] | rw [upd_n (by omega)])
                          exact nameT_4
                        · repeat (first | rw [upd_s] | rw [upd_n (by omega)])
                          try rfl
                        · repeat (first | rw [upd_s] | rw [upd_n (by omega)])
                          try rfl
                        · repeat (first | rw [upd_s] | rw [upd_n (by omega)])
                          rw [nameT_o hn3 (by omega)]; exact hz 7 (by decide) (by decide)
                        · repeat (first | rw [upd_s] | rw [upd_n (by omega)])
                          rw [nameT_o hn3 (by omega)]; exact hz 8 (by decide) (by decide)
                        · repeat (first | rw [upd_s] | rw [upd_n (by omega)])
                          rw [nameT_o hn3 (by omega)]; exact hz 9 (by decide) (by decide)
                      · intro j hj
                        rw [hT5]
                        repeat (first | rw [upd_s] | rw [upd_n (by omega)])
                        rw [nameT_o hn3 (by omega)]
                        exact ho j hj
theorem itemT {B : List Nat} {p i : Nat} {K0 : AH} {T1 : Nat → Int32} {o2 : Option AV} (hd : 3 ≤ d) (hM : MO H m ma) (hR : BufR H m ma B) (hi : i ≤ 31) (hU0 : MU m ma [90, 93, 94] H K0) (hS0 : gI K0 90 m = nI p) (hp0 : p ≤ 60) (hT0 : gA K0 1093 (ma 93) = T1) (h940 : gI K0 94 m = nI (i + 1)) (hsg : T1 (10 * i) = nI 116) (hz : ∀ j, 1 ≤ j → j < 10 → T1 (10 * i + j) = nI 0) (ho : ∀ j, j < 10 * i → T1 j = gA H 1093 (ma 93) j) (hQ : PItem m ma Qr H i (pT B p)) : AW mX3_item G d Qr Qx 0 0 K0 122 [some (vR (some m)), some (vI (nI (10 * i))), o2] [] := by
  have hb2 := hR.2.1
  unfold pT at hQ
  have hM0 := hM.mf hU0.1
  have e00 := hM0.1
  have hR0 := hR.mu hU0 (by decide) (by decide)
  refine r_aload_n (i := 0) dX3_item_122 rfl rfl ?_
  refine r_iload_n (i := 1) dX3_item_123 rfl rfl ?_
  refine r_iconst (v := nI 5) dX3_item_124 (by decide) ?_
  refine r_iadd dX3_item_125 ?_
  try simp only [nI_add, pk_mul, nI_1]
  refine r_callV (As := [_]) (mc' := 0) (ms' := 0) dX3_item_126 k_X3_227 rfl (by first | assumption | (simp only [kd_sI, kd_sR, kd_sA, kd_sQ, kd_sL, kd_sD, ln_sI, ln_sR, ln_sA, ln_sQ, ln_sL, ln_sD, gI_sR, gI_sA, gI_sQ, gI_sL, gI_sD, gR_sI, gR_sA, gR_sQ, gR_sL, gR_sD, gA_sI, gA_sR, gA_sQ, gA_sL, gA_sD, gQ_sI, gQ_sR, gQ_sA, gQ_sL, gQ_sD, gL_sI, gL_sR, gL_sA, gL_sQ, gL_sD]; assumption) | simp [kd_sI, kd_sR, kd_sA, kd_sQ, kd_sL, kd_sD, ln_sI, ln_sR, ln_sA, ln_sQ, ln_sL, ln_sD, gI_sR, gI_sA, gI_sQ, gI_sL, gI_sD, gR_sI, gR_sA, gR_sQ, gR_sL, gR_sD, gA_sI, gA_sR, gA_sQ, gA_sL, gA_sD, gQ_sI, gQ_sR, gQ_sA, gQ_sL, gQ_sD, gL_sI, gL_sR, gL_sA, gL_sQ, gL_sD, kd_nO, kd_nA, *]) (T := TX3) (N := 27) rfl (by first | assumption | omega) (by first | assumption | omega) (by first | assumption | omega) (Nat.le_of_ble_eq_true rfl) ?_
  refine s_digit (B := B) (p := p) (a := 10 * i + 5) (by omega) hM0 hR0 hS0 hp0 (by omega) ?_
  intro K1 hV1 hS1 hW1
  have hU1 : MU m ma [90, 93, 94] H K1 := (hU0.tr hV1).sub (by decide)
  have hM1 := hM.mf hU1.1
  have e01 := hM1.1
  have hR1 := hR.mu hU1 (by decide) (by decide)
  have h941 : gI K1 94 m = nI (i + 1) := by rw [(hV1.2 94 (by decide)).1]; exact h940
  show AW mX3_item G d Qr Qx _ _ K1 129 _ _
  rcases ht1 : tk B 48 57 p with ⟨o11, q1⟩
  rw [ht1] at hS1 hW1 hQ
  cases o11 with
  | none =>
    refine r_if_eq (tgt := 216) dX3_item_129 (by decide) (fun h129 => ?_) (fun h129 => ?_)
    · refine r_iconst (v := nI 0) dX3_item_216 (by decide) ?_
      refine r_ireturn dX3_item_217 rfl (by first | rfl | assumption | exact vp_nar_int _ | exact pk_nc _) ?_
      exact hQ K1 hU1 hS1 (fun it hit => by cases hit)
    · exact absurd rfl h129
  | some v0 =>
    have hp1 : q1 ≤ 60 := by have := (tk_some ht1).1; omega
    have hT1 := hW1 v0 rfl
    rw [hT0] at hT1
    simp only [bnd] at hQ
    refine r_if_eq (tgt := 216) dX3_item_129 (by decide) (fun h129 => ?_) (fun h129 => ?_)
    · exact absurd h129 (by show ¬ nI 1 = 0; decide)
    · skip
      refine r_aload_n (i := 0) dX3_item_132 rfl rfl ?_
      refine r_bipush (v := nI 45) dX3_item_133 (by decide) ?_
      refine r_callV (As := [_]) (mc' := 0) (ms' := 0) dX3_item_135 k_X3_233 rfl (by first | assumption | (simp only [kd_sI, kd_sR, kd_sA, kd_sQ, kd_sL, kd_sD, ln_sI, ln_sR, ln_sA, ln_sQ, ln_sL, ln_sD, gI_sR, gI_sA, gI_sQ, gI_sL, gI_sD, gR_sI, gR_sA, gR_sQ, gR_sL, gR_sD, gA_sI, gA_sR, gA_sQ, gA_sL, gA_sD, gQ_sI, gQ_sR, gQ_sA, gQ_sL, gQ_sD, gL_sI, gL_sR, gL_sA, gL_sQ, gL_sD]; assumption) | simp [kd_sI, kd_sR, kd_sA, kd_sQ, kd_sL, kd_sD, ln_sI, ln_sR, ln_sA, ln_sQ, ln_sL, ln_sD, gI_sR, gI_sA, gI_sQ, gI_sL, gI_sD, gR_sI, gR_sA, gR_sQ, gR_sL, gR_sD, gA_sI, gA_sR, gA_sQ, gA_sL, gA_sD, gQ_sI, gQ_sR, gQ_sA, gQ_sL, gQ_sD, gL_sI, gL_sR, gL_sA, gL_sQ, gL_sD, kd_nO, kd_nA, *]) (T := TX3) (N := 27) rfl (by first | assumption | omega) (by first | assumption | omega) (by first | assumption | omega) (Nat.le_of_ble_eq_true rfl) ?_
      refine s_skips (B := B) (p := q1) (c := 45) (by omega) hM1 hR1 hS1 hp1 (by decide) ?_
      intro K2 hV2 hS2
      have hU2 : MU m ma [90, 93, 94] H K2 := (hU1.tr hV2).sub (by decide)
      have hM2 := hM.mf hU2.1
      have e02 := hM2.1
      have hR2 := hR.mu hU2 (by decide) (by decide)
      have h942 : gI K2 94 m = nI (i + 1) := by rw [(hV2.2 94 (by decide)).1]; exact h941
      show AW mX3_item G d Qr Qx _ _ K2 138 _ _
      rcases ht2 : tk B 45 45 q1 with ⟨o12, q2⟩
      rw [ht2] at hS2 hQ
      cases o12 with
      | none =>
        refine r_if_eq (tgt := 216) dX3_item_138 (by decide) (fun h138 => ?_) (fun h138 => ?_)
        · refine r_iconst (v := nI 0) dX3_item_216 (by decide) ?_
          refine r_ireturn dX3_item_217 rfl (by first | rfl | assumption | exact vp_nar_int _ | exact pk_nc _) ?_
          exact hQ K2 hU2 hS2 (fun it hit => by cases hit)
        · exact absurd rfl h138
      | some w1 =>
        have hp2 : q2 ≤ 60 := by have := (tk_some ht2).1; omega
        have hT2 : gA K2 1093 (ma 93) = (upd T1 (10 * i + 5) (nI v0)) := by rw [show gA K2 1093 = gA K1 1093 from (hV2.2 93 (by decide)).2]; exact hT1
        simp only [bnd] at hQ
        refine r_if_eq (tgt := 216) dX3_item_138 (by decide) (fun h138 => ?_) (fun h138 => ?_)
        · exact absurd h138 (by show ¬ nI 1 = 0; decide)
        · skip
          refine r_aload_n (i := 0) dX3_item_141 rfl rfl ?_
          refine r_iload_n (i := 1) dX3_item_142 rfl rfl ?_
          refine r_bipush (v := nI 6) dX3_item_143 (by decide) ?_
          refine r_iadd dX3_item_145 ?_
          try simp only [nI_add, pk_mul, nI_1]
          refine r_callV (As := [_]) (mc' := 0) (ms' := 0) dX3_item_146 k_X3_227 rfl (by first | assumption | (simp only [kd_sI, kd_sR, kd_sA, kd_sQ, kd_sL, kd_sD, ln_sI, ln_sR, ln_sA, ln_sQ, ln_sL, ln_sD, gI_sR, gI_sA, gI_sQ, gI_sL, gI_sD, gR_sI, gR_sA, gR_sQ, gR_sL, gR_sD, gA_sI, gA_sR, gA_sQ, gA_sL, gA_sD, gQ_sI, gQ_sR, gQ_sA, gQ_sL, gQ_sD, gL_sI, gL_sR, gL_sA, gL_sQ, gL_sD]; assumption) | simp [kd_sI, kd_sR, kd_sA, kd_sQ, kd_sL, kd_sD, ln_sI, ln_sR, ln_sA, ln_sQ, ln_sL, ln_sD, gI_sR, gI_sA, gI_sQ, gI_sL, gI_sD, gR_sI, gR_sA, gR_sQ, gR_sL, gR_sD, gA_sI, gA_sR, gA_sQ, gA_sL, gA_sD, gQ_sI, gQ_sR, gQ_sA, gQ_sL, gQ_sD, gL_sI, gL_sR, gL_sA, gL_sQ, gL_sD, kd_nO, kd_nA, *]) (T := TX3) (N := 27) rfl (by first | assumption | omega) (by first | assumption | omega) (by first | assumption | omega) (Nat.le_of_ble_eq_true rfl) ?_
          refine s_digit (B := B) (p := q2) (a := 10 * i + 6) (by omega) hM2 hR2 hS2 hp2 (by omega) ?_
          intro K3 hV3 hS3 hW3
          have hU3 : MU m ma [90, 93, 94] H K3 := (hU2.tr hV3).sub (by decide)
          have hM3 := hM.mf hU3.1
          have e03 := hM3.1
          have hR3 := hR.mu hU3 (by decide) (by decide)
          have h943 : gI K3 94 m = nI (i + 1) := by rw [(hV3.2 94 (by decide)).1]; exact h942
          show AW mX3_item G d Qr Qx _ _ K3 149 _ _
          rcases ht3 : tk B 48 57 q2 with ⟨o13, q3⟩
          rw [ht3] at hS3 hW3 hQ
          cases o13 with
          | none =>
            refine r_if_eq (tgt := 216) dX3_item_149 (by decide) (fun h149 => ?_) (fun h149 => ?_)
            · refine r_iconst (v := nI 0) dX3_item_216 (by decide) ?_
              refine r_ireturn dX3_item_217 rfl (by first | rfl | assumption | exact vp_nar_int _ | exact pk_nc _) ?_
              exact hQ K3 hU3 hS3 (fun it hit => by cases hit)
            · exact absurd rfl h149
          | some v2 =>
            have hp3 : q3 ≤ 60 := by have := (tk_some ht3).1; omega
            have hT3 := hW3 v2 rfl
            rw [hT2] at hT3
            simp only [bnd] at hQ
            refine r_if_eq (tgt := 216) dX3_item_149 (by decide) (fun h149 => ?_) (fun h149 => ?_)
            · exact absurd h149 (by show ¬ nI 1 = 0; decide)
            · skip
              refine r_aload_n (i := 0) dX3_item_152 rfl rfl ?_
              refine r_bipush (v := nI 58) dX3_item_153 (by decide) ?_
              refine r_callV (As := [_]) (mc' := 0) (ms' := 0) dX3_item_155 k_X3_233 rfl (by first | assumption | (simp only [kd_sI, kd_sR, kd_sA, kd_sQ, kd_sL, kd_sD, ln_sI, ln_sR, ln_sA, ln_sQ, ln_sL, ln_sD, gI_sR, gI_sA, gI_sQ, gI_sL, gI_sD, gR_sI, gR_sA, gR_sQ, gR_sL, gR_sD, gA_sI, gA_sR, gA_sQ, gA_sL, gA_sD, gQ_sI, gQ_sR, gQ_sA, gQ_sL, gQ_sD, gL_sI, gL_sR, gL_sA, gL_sQ, gL_sD]; assumption) | simp [kd_sI, kd_sR, kd_sA, kd_sQ, kd_sL, kd_sD, ln_sI, ln_sR, ln_sA, ln_sQ, ln_sL, ln_sD, gI_sR, gI_sA, gI_sQ, gI_sL, gI_sD, gR_sI, gR_sA, gR_sQ, gR_sL, gR_sD, gA_sI, gA_sR, gA_sQ, gA_sL, gA_sD, gQ_sI, gQ_sR, gQ_sA, gQ_sL, gQ_sD, gL_sI, gL_sR, gL_sA, gL_sQ, gL_sD, kd_nO, kd_nA, *]) (T := TX3) (N := 27) rfl (by first | assumption | omega) (by first | assumption | omega) (by first | assumption | omega) (Nat.le_of_ble_eq_true rfl) ?_
              refine s_skips (B := B) (p := q3) (c := 58) (by omega) hM3 hR3 hS3 hp3 (by decide) ?_
              intro K4 hV4 hS4
              have hU4 : MU m ma [90, 93, 94] H K4 := (hU3.tr hV4).sub (by decide)
              have hM4 := hM.mf hU4.1
              have e04 := hM4.1
              have hR4 := hR.mu hU4 (by decide) (by decide)
              have h944 : gI K4 94 m = nI (i + 1) := by rw [(hV4.2 94 (by decide)).1]; exact h943
              show AW mX3_item G d Qr Qx _ _ K4 158 _ _
              rcases ht4 : tk B 58 58 q3 with ⟨o14, q4⟩
              rw [ht4] at hS4 hQ
              cases o14 with
              | none =>
                refine r_if_eq (tgt := 216) dX3_item_158 (by decide) (fun h158 => ?_) (fun h158 => ?_)
                · refine r_iconst (v := nI 0) dX3_item_216 (by decide) ?_
                  refine r_ireturn dX3_item_217 rfl (by first | rfl | assumption | exact vp_nar_int _ | exact pk_nc _) ?_
                  exact hQ K4 hU4 hS4 (fun it hit => by cases hit)
                · exact absurd rfl h158
              | some w3 =>
                have hp4 : q4 ≤ 60 := by have := (tk_some ht4).1; omega
                have hT4 : gA K4 1093 (ma 93) = (upd (upd T1 (10 * i + 5) (nI v0)) (10 * i + 6) (nI v2)) := by rw [show gA K4 1093 = gA K3 1093 from (hV4.2 93 (by decide)).2]; exact hT3
                simp only [bnd] at hQ
                refine r_if_eq (tgt := 216) dX3_item_158 (by decide) (fun h158 => ?_) (fun h158 => ?_)
                · exact absurd h158 (by show ¬ nI 1 = 0; decide)
                · skip
                  refine r_aload_n (i := 0) dX3_item_161 rfl rfl ?_
                  refine r_iload_n (i := 1) dX3_item_162 rfl rfl ?_
                  refine r_bipush (v := nI 7) dX3_item_163 (by decide) ?_
                  refine r_iadd dX3_item_165 ?_
                  try simp only [nI_add, pk_mul, nI_1]
                  refine r_callV (As := [_]) (mc' := 0) (ms' := 0) dX3_item_166 k_X3_239 rfl (by first | assumption | (simp only [kd_sI, kd_sR, kd_sA, kd_sQ, kd_sL, kd_sD, ln_sI, ln_sR, ln_sA, ln_sQ, ln_sL, ln_sD, gI_sR, gI_sA, gI_sQ, gI_sL, gI_sD, gR_sI, gR_sA, gR_sQ, gR_sL, gR_sD, gA_sI, gA_sR, gA_sQ, gA_sL, gA_sD, gQ_sI, gQ_sR, gQ_sA, gQ_sL, gQ_sD, gL_sI, gL_sR, gL_sA, gL_sQ, gL_sD]; assumption) | simp [kd_sI, kd_sR, kd_sA, kd_sQ, kd_sL, kd_sD, ln_sI, ln_sR, ln_sA, ln_sQ, ln_sL, ln_sD, gI_sR, gI_sA, gI_sQ, gI_sL, gI_sD, gR_sI, gR_sA, gR_sQ, gR_sL, gR_sD, gA_sI, gA_sR, gA_sQ, gA_sL, gA_sD, gQ_sI, gQ_sR, gQ_sA, gQ_sL, gQ_sD, gL_sI, gL_sR, gL_sA, gL_sQ, gL_sD, kd_nO, kd_nA, *]) (T := TX3) (N := 27) rfl (by first | assumption | omega) (by first | assumption | omega) (by first | assumption | omega) (Nat.le_of_ble_eq_true rfl) ?_
                  refine s_number (B := B) (p := q4) (a := 10 * i + 7) (by omega) hM4 hR4 hS4 hp4 (by omega) ?_
                  intro K5 hV5 hS5 hW5
                  have hU5 : MU m ma [90, 93, 94] H K5 := (hU4.tr hV5).sub (by decide)
                  have hM5 := hM.mf hU5.1
                  have e05 := hM5.1
                  have hR5 := hR.mu hU5 (by decide) (by decide)
                  have h945 : gI K5 94 m = nI (i + 1) := by rw [(hV5.2 94 (by decide)).1]; exact h944
                  show AW mX3_item G d Qr Qx _ _ K5 169 _ _
                  rcases ht5 : pNum B q4 with ⟨o15, q5⟩
                  rw [ht5] at hS5 hW5 hQ
                  cases o15 with
                  | none =>
                    refine r_if_eq (tgt := 216) dX3_item_169 (by decide) (fun h169 => ?_) (fun h169 => ?_)
                    · refine r_iconst (v := nI 0) dX3_item_216 (by decide) ?_
                      refine r_ireturn dX3_item_217 rfl (by first | rfl | assumption | exact vp_nar_int _ | exact pk_nc _) ?_
                      exact hQ K5 hU5 hS5 (fun it hit => by cases hit)
                    · exact absurd rfl h169
                  | some v4 =>
                    have hp5 : q5 ≤ 60 := by have := (pNum_some ht5).1; omega
                    have hT5 := hW5 v4 rfl
                    rw [hT4] at hT5
                    simp only [bnd] at hQ
                    refine r_if_eq (tgt := 216) dX3_item_169 (by decide) (fun h169 => ?_) (fun h169 => ?_)
                    · exact absurd h169 (by show ¬ nI 1 = 0; decide)
                    · skip
                      refine r_aload_n (i := 0) dX3_item_172 rfl rfl ?_
                      refine r_bipush (v := nI 44) dX3_item_173 (by decide) ?_
                      refine r_callV (As := [_]) (mc' := 0) (ms' := 0) dX3_item_175 k_X3_233 rfl (by first | assumption | (simp only [kd_sI, kd_sR, kd_sA, kd_sQ, kd_sL, kd_sD, ln_sI, ln_sR, ln_sA, ln_sQ, ln_sL, ln_sD, gI_sR, gI_sA, gI_sQ, gI_sL, gI_sD, gR_sI, gR_sA, gR_sQ, gR_sL, gR_sD, gA_sI, gA_sR, gA_sQ, gA_sL, gA_sD, gQ_sI, gQ_sR, gQ_sA, gQ_sL, gQ_sD, gL_sI, gL_sR, gL_sA, gL_sQ, gL_sD]; assumption) | simp [kd_sI, kd_sR, kd_sA, kd_sQ, kd_sL, kd_sD, ln_sI, ln_sR, ln_sA, ln_sQ, ln_sL, ln_sD, gI_sR, gI_sA, gI_sQ, gI_sL, gI_sD, gR_sI, gR_sA, gR_sQ, gR_sL, gR_sD, gA_sI, gA_sR, gA_sQ, gA_sL, gA_sD, gQ_sI, gQ_sR, gQ_sA, gQ_sL, gQ_sD, gL_sI, gL_sR, gL_sA, gL_sQ, gL_sD, kd_nO, kd_nA, *]) (T := TX3) (N := 27) rfl (by first | assumption | omega) (by first | assumption | omega) (by first | assumption | omega) (Nat.le_of_ble_eq_true rfl) ?_
                      refine s_skips (B := B) (p := q5) (c := 44) (by omega) hM5 hR5 hS5 hp5 (by decide) ?_
                      intro K6 hV6 hS6
                      have hU6 : MU m ma [90, 93, 94] H K6 := (hU5.tr hV6).sub (by decide)
                      have hM6 := hM.mf hU6.1
                      have e06 := hM6.1
                      have hR6 := hR.mu hU6 (by decide) (by decide)
                      have h946 : gI K6 94 m = nI (i + 1) := by rw [(hV6.2 94 (by decide)).1]; exact h945
                      show AW mX3_item G d Qr Qx _ _ K6 178 _ _
                      rcases ht6 : tk B 44 44 q5 with ⟨o16, q6⟩
                      rw [ht6] at hS6 hQ
                      cases o16 with
                      | none =>
                        refine r_if_eq (tgt := 216) dX3_item_178 (by decide) (fun h178 => ?_) (fun h178 => ?_)
                        · refine r_iconst (v := nI 0) dX3_item_216 (by decide) ?_
                          refine r_ireturn dX3_item_217 rfl (by first | rfl | assumption | exact vp_nar_int _ | exact pk_nc _) ?_
                          exact hQ K6 hU6 hS6 (fun it hit => by cases hit)
                        · exact absurd rfl h178
                      | some w5 =>
                        have hp6 : q6 ≤ 60 := by have := (tk_some ht6).1; omega
                        have hT6 : gA K6 1093 (ma 93) = (upd (upd (upd T1 (10 * i + 5) (nI v0)) (10 * i + 6) (nI v2)) (10 * i + 7) (nI v4)) := by rw [show gA K6 1093 = gA K5 1093 from (hV6.2 93 (by decide)).2]; exact hT5
                        simp only [bnd] at hQ
                        refine r_if_eq (tgt := 216) dX3_item_178 (by decide) (fun h178 => ?_) (fun h178 => ?_)
                        · exact absurd h178 (by show ¬ nI 1 = 0; decide)
                        · skip
                          refine r_aload_n (i := 0) dX3_item_181 rfl rfl ?_
                          refine r_iload_n (i := 1) dX3_item_182 rfl rfl ?_
                          refine r_bipush (v := nI 8) dX3_item_183 (by decide) ?_
                          refine r_iadd dX3_item_185 ?_
                          try simp only [nI_add, pk_mul, nI_1]
                          refine r_callV (As := [_]) (mc' := 0) (ms' := 0) dX3_item_186 k_X3_239 rfl (by first | assumption | (simp only [kd_sI, kd_sR, kd_sA, kd_sQ, kd_sL, kd_sD, ln_sI, ln_sR, ln_sA, ln_sQ, ln_sL, ln_sD, gI_sR, gI_sA, gI_sQ, gI_sL, gI_sD, gR_sI, gR_sA, gR_sQ, gR_sL, gR_sD, gA_sI, gA_sR, gA_sQ, gA_sL, gA_sD, gQ_sI, gQ_sR, gQ_sA, gQ_sL, gQ_sD, gL_sI, gL_sR, gL_sA, gL_sQ, gL_sD]; assumption) | simp [kd_sI, kd_sR, kd_sA, kd_sQ, kd_sL, kd_sD, ln_sI, ln_sR, ln_sA, ln_sQ, ln_sL, ln_sD, gI_sR, gI_sA, gI_sQ, gI_sL, gI_sD, gR_sI, gR_sA, gR_sQ, gR_sL, gR_sD, gA_sI, gA_sR, gA_sQ, gA_sL, gA_sD, gQ_sI, gQ_sR, gQ_sA, gQ_sL, gQ_sD, gL_sI, gL_sR, gL_sA, gL_sQ, gL_sD, kd_nO, kd_nA, *]) (T := TX3) (N := 27) rfl (by first | assumption | omega) (by first | assumption | omega) (by first | assumption | omega) (Nat.le_of_ble_eq_true rfl) ?_
                          refine s_number (B := B) (p := q6) (a := 10 * i + 8) (by omega) hM6 hR6 hS6 hp6 (by omega) ?_
                          intro K7 hV7 hS7 hW7
                          have hU7 : MU m ma [90, 93, 94] H K7 := (hU6.tr hV7).sub (by decide)
                          have hM7 := hM.mf hU7.1
                          have e07 := hM7.1
                          have hR7 := hR.mu hU7 (by decide) (by decide)
                          have h947 : gI K7 94 m = nI (i + 1) := by rw [(hV7.2 94 (by decide)).1]; exact h946
                          show AW mX3_item G d Qr Qx _ _ K7 189 _ _
                          rcases ht7 : pNum B q6 with ⟨o17, q7⟩
                          rw [ht7] at hS7 hW7 hQ
                          cases o17 with
                          | none =>
                            refine r_if_eq (tgt := 216) dX3_item_189 (by decide) (fun h189 => ?_) (fun h189 => ?_)
                            · refine r_iconst (v := nI 0) dX3_item_216 (by decide) ?_
                              refine r_ireturn dX3_item_217 rfl (by first | rfl | assumption | exact vp_nar_int _ | exact pk_nc _) ?_
                              exact hQ K7 hU7 hS7 (fun it hit => by cases hit)
                            · exact absurd rfl h189
                          | some v6 =>
                            have hp7 : q7 ≤ 60 := by have := (pNum_some ht7).1; omega
                            have hT7 := hW7 v6 rfl
                            rw [hT6] at hT7
                            simp only [bnd] at hQ
                            refine r_if_eq (tgt := 216) dX3_item_189 (by decide) (fun h189 => ?_) (fun h189 => ?_)
                            · exact absurd h189 (by show ¬ nI 1 = 0; decide)
                            · skip
                              refine r_aload_n (i := 0) dX3_item_192 rfl rfl ?_
                              refine r_bipush (v := nI 44) dX3_item_193 (by decide) ?_
                              refine r_callV (As := [_]) (mc' := 0) (ms' := 0) dX3_item_195 k_X3_233 rfl (by first | assumption | (simp only [kd_sI, kd_sR, kd_sA, kd_sQ, kd_sL, kd_sD, ln_sI, ln_sR, ln_sA, ln_sQ, ln_sL, ln_sD, gI_sR, gI_sA, gI_sQ, gI_sL, gI_sD, gR_sI, gR_sA, gR_sQ, gR_sL, gR_sD, gA_sI, gA_sR, gA_sQ, gA_sL, gA_sD, gQ_sI, gQ_sR, gQ_sA, gQ_sL, gQ_sD, gL_sI, gL_sR, gL_sA, gL_sQ, gL_sD]; assumption) | simp [kd_sI, kd_sR, kd_sA, kd_sQ, kd_sL, kd_sD, ln_sI, ln_sR, ln_sA, ln_sQ, ln_sL, ln_sD, gI_sR, gI_sA, gI_sQ, gI_sL, gI_sD, gR_sI, gR_sA, gR_sQ, gR_sL, gR_sD, gA_sI, gA_sR, gA_sQ, gA_sL, gA_sD, gQ_sI, gQ_sR, gQ_sA, gQ_sL, gQ_sD, gL_sI, gL_sR, gL_sA, gL_sQ, gL_sD, kd_nO, kd_nA, *]) (T := TX3) (N := 27) rfl (by first | assumption | omega) (by first | assumption | omega) (by first | assumption | omega) (Nat.le_of_ble_eq_true rfl) ?_
                              refine s_skips (B := B) (p := q7) (c := 44) (by omega) hM7 hR7 hS7 hp7 (by decide) ?_
                              intro K8 hV8 hS8
                              have hU8 : MU m ma [90, 93, 94] H K8 := (hU7.tr hV8).sub (by decide)
                              have hM8 := hM.mf hU8.1
                              have e08 := hM8.1
                              have hR8 := hR.mu hU8 (by decide) (by decide)
                              have h948 : gI K8 94 m = nI (i + 1) := by rw [(hV8.2 94 (by decide)).1]; exact h947
                              show AW mX3_item G d Qr Qx _ _ K8 198 _ _
                              rcases ht8 : tk B 44 44 q7 with ⟨o18, q8⟩
                              rw [ht8] at hS8 hQ
                              cases o18 with
                              | none =>
                                refine r_if_eq (tgt := 216) dX3_item_198 (by decide) (fun h198 => ?_) (fun h198 => ?_)
                                · refine r_iconst (v := nI 0) dX3_item_216 (by decide) ?_
                                  refine r_ireturn dX3_item_217 rfl (by first | rfl | assumption | exact vp_nar_int _ | exact pk_nc _) ?_
                                  exact hQ K8 hU8 hS8 (fun it hit => by cases hit)
                                · exact absurd rfl h198
                              | some w7 =>
                                have hp8 : q8 ≤ 60 := by have := (tk_some ht8).1; omega
                                have hT8 : gA K8 1093 (ma 93) = (upd (upd (upd (upd T1 (10 * i + 5) (nI v0)) (10 * i + 6) (nI v2)) (10 * i + 7) (nI v4)) (10 * i + 8) (nI v6)) := by rw [show gA K8 1093 = gA K7 1093 from (hV8.2 93 (by decide)).2]; exact hT7
                                simp only [bnd] at hQ
                                refine r_if_eq (tgt := 216) dX3_item_198 (by decide) (fun h198 => ?_) (fun h198 => ?_)
                                · exact absurd h198 (by show ¬ nI 1 = 0; decide)
                                · skip
                                  refine r_aload_n (i := 0) dX3_item_201 rfl rfl ?_
                                  refine r_iload_n (i := 1) dX3_item_202 rfl rfl ?_
                                  refine r_bipush (v := nI 9) dX3_item_203 (by decide) ?_
                                  refine r_iadd dX3_item_205 ?_
                                  try simp only [nI_add, pk_mul, nI_1]
                                  refine r_callV (As := [_]) (mc' := 0) (ms' := 0) dX3_item_206 k_X3_227 rfl (by first | assumption | (simp only [kd_sI, kd_sR, kd_sA, kd_sQ, kd_sL, kd_sD, ln_sI, ln_sR, ln_sA, ln_sQ, ln_sL, ln_sD, gI_sR, gI_sA, gI_sQ, gI_sL, gI_sD, gR_sI, gR_sA, gR_sQ, gR_sL, gR_sD, gA_sI, gA_sR, gA_sQ, gA_sL, gA_sD, gQ_sI, gQ_sR, gQ_sA, gQ_sL, gQ_sD, gL_sI, gL_sR, gL_sA, gL_sQ, gL_sD]; assumption) | simp [kd_sI, kd_sR, kd_sA, kd_sQ, kd_sL, kd_sD, ln_sI, ln_sR, ln_sA, ln_sQ, ln_sL, ln_sD, gI_sR, gI_sA, gI_sQ, gI_sL, gI_sD, gR_sI, gR_sA, gR_sQ, gR_sL, gR_sD, gA_sI, gA_sR, gA_sQ, gA_sL, gA_sD, gQ_sI, gQ_sR, gQ_sA, gQ_sL, gQ_sD, gL_sI, gL_sR, gL_sA, gL_sQ, gL_sD, kd_nO, kd_nA, *]) (T := TX3) (N := 27) rfl (by first | assumption | omega) (by first | assumption | omega) (by first | assumption | omega) (Nat.le_of_ble_eq_true rfl) ?_
                                  refine s_digit (B := B) (p := q8) (a := 10 * i + 9) (by omega) hM8 hR8 hS8 hp8 (by omega) ?_
                                  intro K9 hV9 hS9 hW9
                                  have hU9 : MU m ma [90, 93, 94] H K9 := (hU8.tr hV9).sub (by decide)
                                  have hM9 := hM.mf hU9.1
                                  have e09 := hM9.1
                                  have hR9 := hR.mu hU9 (by decide) (by decide)
                                  have h949 : gI K9 94 m = nI (i + 1) := by rw [(hV9.2 94 (by decide)).1]; exact h948
                                  show AW mX3_item G d Qr Qx _ _ K9 209 _ _
                                  rcases ht9 : tk B 48 57 q8 with ⟨o19, q9⟩
                                  rw [ht9] at hS9 hW9 hQ
                                  cases o19 with
                                  | none =>
                                    refine r_if_eq (tgt := 216) dX3_item_209 (by decide) (fun h209 => ?_) (fun h209 => ?_)
                                    · refine r_iconst (v := nI 0) dX3_item_216 (by decide) ?_
                                      refine r_ireturn dX3_item_217 rfl (by first | rfl | assumption | exact vp_nar_int _ | exact pk_nc _) ?_
                                      exact hQ K9 hU9 hS9 (fun it hit => by cases hit)
                                    · exact absurd rfl h209
                                  | some v8 =>
                                    have hp9 : q9 ≤ 60 := by have := (tk_some ht9).1; omega
                                    have hT9 := hW9 v8 rfl
                                    rw [hT8] at hT9
                                    simp only [bnd] at hQ
                                    refine r_if_eq (tgt := 216) dX3_item_209 (by decide) (fun h209 => ?_) (fun h209 => ?_)
                                    · exact absurd h209 (by show ¬ nI 1 = 0; decide)
                                    · skip
                                      refine r_iconst (v := nI 1) dX3_item_212 (by decide) ?_
                                      refine r_goto (tgt := 217) dX3_item_213 (by decide) ?_
                                      refine r_ireturn dX3_item_217 rfl (by first | rfl | assumption | exact vp_nar_int _ | exact pk_nc _) ?_
                                      refine hQ K9 hU9 hS9 (fun it hit => ?_)
                                      cases hit
                                      refine ⟨h949, ?_, ?_⟩
                                      · rw [hT9]
                                        refine ⟨?_, ?_, ?_, ?_, ?_, ?_, ?_, ?_, ?_, ?_⟩
                                        · repeat (first | rw [upd_s] | rw [upd_n (by omega)])
                                          exact hsg
                                        · repeat (first | rw [upd_s] | rw [upd_n (by omega)])
                                          exact hz 1 (by decide) (by decide)
                                        · repeat (first | rw [upd_s] | rw [upd_n (by omega)])
                                          exact hz 2 (by decide) (by decide)
                                        · repeat (first | rw [upd_s] | rw [upd_n (by omega)])
                                          exact hz 3 (by decide) (by decide)
                                        · repeat (first | rw [upd_s] | rw [upd_n (by omega)])
                                          exact hz 4 (by decide) (by decide)
                                        · repeat (first | rw [upd_s] | rw [upd_n (by omega)])
                                          try rfl
                                        · repeat (first | rw [upd_s] | rw [upd_n (by omega)])
                                          try rfl
                                        · repeat (first | rw [upd_s] | rw [upd_n (by omega)])
                                          try rfl
                                        · repeat (first | rw [upd_s] | rw [upd_n (by omega)])
                                          try rfl
                                        · repeat (first | rw [upd_s] | rw [upd_n (by omega)])
                                          try rfl
                                      · intro j hj
                                        rw [hT9]
                                        repeat (first | rw [upd_s] | rw [upd_n (by omega)])
                                        exact ho j hj
theorem itemC {B : List Nat} {p i : Nat} {K0 : AH} {T1 : Nat → Int32} {o2 : Option AV} (hd : 3 ≤ d) (hM : MO H m ma) (hR : BufR H m ma B) (hi : i ≤ 31) (hU0 : MU m ma [90, 93, 94] H K0) (hS0 : gI K0 90 m = nI p) (hp0 : p ≤ 60) (hT0 : gA K0 1093 (ma 93) = T1) (h940 : gI K0 94 m = nI (i + 1)) (hsg : T1 (10 * i) = nI 99) (hz : ∀ j, 1 ≤ j → j < 10 → T1 (10 * i + j) = nI 0) (ho : ∀ j, j < 10 * i → T1 j = gA H 1093 (ma 93) j) (hQ : PItem m ma Qr H i (pC B p)) : AW mX3_item G d Qr Qx 0 0 K0 227 [some (vR (some m)), some (vI (nI (10 * i))), o2] [] := by
  have hb2 := hR.2.1
  unfold pC at hQ
  have hM0 := hM.mf hU0.1
  have e00 := hM0.1
  have hR0 := hR.mu hU0 (by decide) (by decide)
  refine r_aload_n (i := 0) dX3_item_227 rfl rfl ?_
  refine r_iload_n (i := 1) dX3_item_228 rfl rfl ?_
  refine r_callV (As := [_]) (mc' := 0) (ms' := 0) dX3_item_229 k_X3_236 rfl (by first | assumption | (simp only [kd_sI, kd_sR, kd_sA, kd_sQ, kd_sL, kd_sD, ln_sI, ln_sR, ln_sA, ln_sQ, ln_sL, ln_sD, gI_sR, gI_sA, gI_sQ, gI_sL, gI_sD, gR_sI, gR_sA, gR_sQ, gR_sL, gR_sD, gA_sI, gA_sR, gA_sQ, gA_sL, gA_sD, gQ_sI, gQ_sR, gQ_sA, gQ_sL, gQ_sD, gL_sI, gL_sR, gL_sA, gL_sQ, gL_sD]; assumption) | simp [kd_sI, kd_sR, kd_sA, kd_sQ, kd_sL, kd_sD, ln_sI, ln_sR, ln_sA, ln_sQ, ln_sL, ln_sD, gI_sR, gI_sA, gI_sQ, gI_sL, gI_sD, gR_sI, gR_sA, gR_sQ, gR_sL, gR_sD, gA_sI, gA_sR, gA_sQ, gA_sL, gA_sD, gQ_sI, gQ_sR, gQ_sA, gQ_sL, gQ_sD, gL_sI, gL_sR, gL_sA, gL_sQ, gL_sD, kd_nO, kd_nA, *]) (T := TX3) (N := 27) rfl (by first | assumption | omega) (by first | assumption | omega) (by first | assumption | omega) (Nat.le_of_ble_eq_true rfl) ?_
  refine s_name (B := B) (p := p) (a := 10 * i) (by omega) hM0 hR0 hS0 hp0 (by omega) ?_
  intro K1 hV1 hS1 hW1
  have hU1 : MU m ma [90, 93, 94] H K1 := (hU0.tr hV1).sub (by decide)
  have hM1 := hM.mf hU1.1
  have e01 := hM1.1
  have hR1 := hR.mu hU1 (by decide) (by decide)
  have h941 : gI K1 94 m = nI (i + 1) := by rw [(hV1.2 94 (by decide)).1]; exact h940
  show AW mX3_item G d Qr Qx _ _ K1 232 _ _
  rcases ht1 : pName B p with ⟨o11, q1⟩
  rw [ht1] at hS1 hW1 hQ
  cases o11 with
  | none =>
    refine r_if_eq (tgt := 278) dX3_item_232 (by decide) (fun h232 => ?_) (fun h232 => ?_)
    · refine r_iconst (v := nI 0) dX3_item_278 (by decide) ?_
      refine r_ireturn dX3_item_279 rfl (by first | rfl | assumption | exact vp_nar_int _ | exact pk_nc _) ?_
      exact hQ K1 hU1 hS1 (fun it hit => by cases hit)
    · exact absurd rfl h232
  | some nm =>
    have hp1 : q1 ≤ 60 := by have := (pName_some ht1).1; omega
    obtain ⟨hT1, hn3⟩ := hW1 nm rfl
    rw [hT0] at hT1
    simp only [bnd] at hQ
    refine r_if_eq (tgt := 278) dX3_item_232 (by decide) (fun h232 => ?_) (fun h232 => ?_)
    · exact absurd h232 (by show ¬ nI 1 = 0; decide)
    · skip
      refine r_aload_n (i := 0) dX3_item_235 rfl rfl ?_
      refine r_bipush (v := nI 58) dX3_item_236 (by decide) ?_
      refine r_callV (As := [_]) (mc' := 0) (ms' := 0) dX3_item_238 k_X3_233 rfl (by first | assumption | (simp only [kd_sI, kd_sR, kd_sA, kd_sQ, kd_sL, kd_sD, ln_sI, ln_sR, ln_sA, ln_sQ, ln_sL, ln_sD, gI_sR, gI_sA, gI_sQ, gI_sL, gI_sD, gR_sI, gR_sA, gR_sQ, gR_sL, gR_sD, gA_sI, gA_sR, gA_sQ, gA_sL, gA_sD, gQ_sI, gQ_sR, gQ_sA, gQ_sL, gQ_sD, gL_sI, gL_sR, gL_sA, gL_sQ, gL_sD]; assumption) | simp [kd_sI, kd_sR, kd_sA, kd_sQ, kd_sL, kd_sD, ln_sI, ln_sR, ln_sA, ln_sQ, ln_sL, ln_sD, gI_sR, gI_sA, gI_sQ, gI_sL, gI_sD, gR_sI, gR_sA, gR_sQ, gR_sL, gR_sD, gA_sI, gA_sR, gA_sQ, gA_sL, gA_sD, gQ_sI, gQ_sR, gQ_sA, gQ_sL, gQ_sD, gL_sI, gL_sR, gL_sA, gL_sQ, gL_sD, kd_nO, kd_nA, *]) (T := TX3) (N := 27) rfl (by first | assumption | omega) (by first | assumption | omega) (by first | assumption | omega) (Nat.le_of_ble_eq_true rfl) ?_
      refine s_skips (B := B) (p := q1) (c := 58) (by omega) hM1 hR1 hS1 hp1 (by decide) ?_
      intro K2 hV2 hS2
      have hU2 : MU m ma [90, 93, 94] H K2 := (hU1.tr hV2).sub (by decide)
      have hM2 := hM.mf hU2.1
      have e02 := hM2.1
      have hR2 := hR.mu hU2 (by decide) (by decide)
      have h942 : gI K2 94 m = nI (i + 1) := by rw [(hV2.2 94 (by decide)).1]; exact h941
      show AW mX3_item G d Qr Qx _ _ K2 241 _ _
      rcases ht2 : tk B 58 58 q1 with ⟨o12, q2⟩
      rw [ht2] at hS2 hQ
      cases o12 with
      | none =>
        refine r_if_eq (tgt := 278) dX3_item_241 (by decide) (fun h241 => ?_) (fun h241 => ?_)
        · refine r_iconst (v := nI 0) dX3_item_278 (by decide) ?_
          refine r_ireturn dX3_item_279 rfl (by first | rfl | assumption | exact vp_nar_int _ | exact pk_nc _) ?_
          exact hQ K2 hU2 hS2 (fun it hit => by cases hit)
        · exact absurd rfl h241
      | some w1 =>
        have hp2 : q2 ≤ 60 := by have := (tk_some ht2).1; omega
        have hT2 : gA K2 1093 (ma 93) = (nameT T1 nm (10 * i)) := by rw [show gA K2 1093 = gA K1 1093 from (hV2.2 93 (by decide)).2]; exact hT1
        simp only [bnd] at hQ
        refine r_if_eq (tgt := 278) dX3_item_241 (by decide) (fun h241 => ?_) (fun h241 => ?_)
        · exact absurd h241 (by show ¬ nI 1 = 0; decide)
        · skip
          refine r_aload_n (i := 0) dX3_item_244 rfl rfl ?_
          refine r_iload_n (i := 1) dX3_item_245 rfl rfl ?_
          refine r_iconst (v := nI 5) dX3_item_246 (by decide) ?_
          refine r_iadd dX3_item_247 ?_
          try simp only [nI_add, pk_mul, nI_1]
          refine r_callV (As := [_]) (mc' := 0) (ms' := 0) dX3_item_248 k_X3_227 rfl (by first | assumption | (simp only [kd_sI, kd_sR, kd_sA, kd_sQ, kd_sL, kd_sD, ln_sI, ln_sR, ln_sA, ln_sQ, ln_sL, ln_sD, gI_sR, gI_sA, gI_sQ, gI_sL, gI_sD, gR_sI, gR_sA, gR_sQ, gR_sL, gR_sD, gA_sI, gA_sR, gA_sQ, gA_sL, gA_sD, gQ_sI, gQ_sR, gQ_sA, gQ_sL, gQ_sD, gL_sI, gL_sR, gL_sA, gL_sQ, gL_sD]; assumption) | simp [kd_sI, kd_sR, kd_sA, kd_sQ, kd_sL, kd_sD, ln_sI, ln_sR, ln_sA, ln_sQ, ln_sL, ln_sD, gI_sR, gI_sA, gI_sQ, gI_sL, gI_sD, gR_sI, gR_sA, gR_sQ, gR_sL, gR_sD, gA_sI, gA_sR, gA_sQ, gA_sL, gA_sD, gQ_sI, gQ_sR, gQ_sA, gQ_sL, gQ_sD, gL_sI, gL_sR, gL_sA, gL_sQ, gL_sD, kd_nO, kd_nA, *]) (T := TX3) (N := 27) rfl (by first | assumption | omega) (by first | assumption | omega) (by first | assumption | omega) (Nat.le_of_ble_eq_true rfl) ?_
          refine s_digit (B := B) (p := q2) (a := 10 * i + 5) (by omega) hM2 hR2 hS2 hp2 (by omega) ?_
          intro K3 hV3 hS3 hW3
          have hU3 : MU m ma [90, 93, 94] H K3 := (hU2.tr hV3).sub (by decide)
          have hM3 := hM.mf hU3.1
          have e03 := hM3.1
          have hR3 := hR.mu hU3 (by decide) (by decide)
          have h943 : gI K3 94 m = nI (i + 1) := by rw [(hV3.2 94 (by decide)).1]; exact h942
          show AW mX3_item G d Qr Qx _ _ K3 251 _ _
          rcases ht3 : tk B 48 57 q2 with ⟨o13, q3⟩
          rw [ht3] at hS3 hW3 hQ
          cases o13 with
          | none =>
            refine r_if_eq (tgt := 278) dX3_item_251 (by decide) (fun h251 => ?_) (fun h251 => ?_)
            · refine r_iconst (v := nI 0) dX3_item_278 (by decide) ?_
              refine r_ireturn dX3_item_279 rfl (by first | rfl | assumption | exact vp_nar_int _ | exact pk_nc _) ?_
              exact hQ K3 hU3 hS3 (fun it hit => by cases hit)
            · exact absurd rfl h251
          | some v2 =>
            have hp3 : q3 ≤ 60 := by have := (tk_some ht3).1; omega
            have hT3 := hW3 v2 rfl
            rw [hT2] at hT3
            simp only [bnd] at hQ
            refine r_if_eq (tgt := 278) dX3_item_251 (by decide) (fun h251 => ?_) (fun h251 => ?_)
            · exact absurd h251 (by show ¬ nI 1 = 0; decide)
            · skip
              refine r_aload_n (i := 0) dX3_item_254 rfl rfl ?_
              refine r_bipush (v := nI 45) dX3_item_255 (by decide) ?_
              refine r_callV (As := [_]) (mc' := 0) (ms' := 0) dX3_item_257 k_X3_233 rfl (by first | assumption | (simp only [kd_sI, kd_sR, kd_sA, kd_sQ, kd_sL, kd_sD, ln_sI, ln_sR, ln_sA, ln_sQ, ln_sL, ln_sD, gI_sR, gI_sA, gI_sQ, gI_sL, gI_sD, gR_sI, gR_sA, gR_sQ, gR_sL, gR_sD, gA_sI, gA_sR, gA_sQ, gA_sL, gA_sD, gQ_sI, gQ_sR, gQ_sA, gQ_sL, gQ_sD, gL_sI, gL_sR, gL_sA, gL_sQ, gL_sD]; assumption) | simp [kd_sI, kd_sR, kd_sA, kd_sQ, kd_sL, kd_sD, ln_sI, ln_sR, ln_sA, ln_sQ, ln_sL, ln_sD, gI_sR, gI_sA, gI_sQ, gI_sL, gI_sD, gR_sI, gR_sA, gR_sQ, gR_sL, gR_sD, gA_sI, gA_sR, gA_sQ, gA_sL, gA_sD, gQ_sI, gQ_sR, gQ_sA, gQ_sL, gQ_sD, gL_sI, gL_sR, gL_sA, gL_sQ, gL_sD, kd_nO, kd_nA, *]) (T := TX3) (N := 27) rfl (by first | assumption | omega) (by first | assumption | omega) (by first | assumption | omega) (Nat.le_of_ble_eq_true rfl) ?_
              refine s_skips (B := B) (p := q3) (c := 45) (by omega) hM3 hR3 hS3 hp3 (by decide) ?_
              intro K4 hV4 hS4
              have hU4 : MU m ma [90, 93, 94] H K4 := (hU3.tr hV4).sub (by decide)
              have hM4 := hM.mf hU4.1
              have e04 := hM4.1
              have hR4 := hR.mu hU4 (by decide) (by decide)
              have h944 : gI K4 94 m = nI (i + 1) := by rw [(hV4.2 94 (by decide)).1]; exact h943
              show AW mX3_item G d Qr Qx _ _ K4 260 _ _
              rcases ht4 : tk B 45 45 q3 with ⟨o14, q4⟩
              rw [ht4] at hS4 hQ
              cases o14 with
              | none =>
                refine r_if_eq (tgt := 278) dX3_item_260 (by decide) (fun h260 => ?_) (fun h260 => ?_)
                · refine r_iconst (v := nI 0) dX3_item_278 (by decide) ?_
                  refine r_ireturn dX3_item_279 rfl (by first | rfl | assumption | exact vp_nar_int _ | exact pk_nc _) ?_
                  exact hQ K4 hU4 hS4 (fun it hit => by cases hit)
                · exact absurd rfl h260
              | some w3 =>
                have hp4 : q4 ≤ 60 := by have := (tk_some ht4).1; omega
                have hT4 : gA K4 1093 (ma 93) = (upd (nameT T1 nm (10 * i)) (10 * i + 5) (nI v2)) := by rw [show gA K4 1093 = gA K3 1093 from (hV4.2 93 (by decide)).2]; exact hT3
                simp only [bnd] at hQ
                refine r_if_eq (tgt := 278) dX3_item_260 (by decide) (fun h260 => ?_) (fun h260 => ?_)
                · exact absurd h260 (by show ¬ nI 1 = 0; decide)
                · skip
                  refine r_aload_n (i := 0) dX3_item_263 rfl rfl ?_
                  refine r_iload_n (i := 1) dX3_item_264 rfl rfl ?_
                  refine r_bipush (v := nI 6) dX3_item_265 (by decide) ?_
                  refine r_iadd dX3_item_267 ?_
                  try simp only [nI_add, pk_mul, nI_1]
                  refine r_callV (As := [_]) (mc' := 0) (ms' := 0) dX3_item_268 k_X3_227 rfl (by first | assumption | (simp only [kd_sI, kd_sR, kd_sA, kd_sQ, kd_sL, kd_sD, ln_sI, ln_sR, ln_sA, ln_sQ, ln_sL, ln_sD, gI_sR, gI_sA, gI_sQ, gI_sL, gI_sD, gR_sI, gR_sA, gR_sQ, gR_sL, gR_sD, gA_sI, gA_sR, gA_sQ, gA_sL, gA_sD, gQ_sI, gQ_sR, gQ_sA, gQ_sL, gQ_sD, gL_sI, gL_sR, gL_sA, gL_sQ, gL_sD]; assumption) | simp [kd_sI, kd_sR, kd_sA, kd_sQ, kd_sL, kd_sD, ln_sI, ln_sR, ln_sA, ln_sQ, ln_sL, ln_sD, gI_sR, gI_sA, gI_sQ, gI_sL, gI_sD, gR_sI, gR_sA, gR_sQ, gR_sL, gR_sD, gA_sI, gA_sR, gA_sQ, gA_sL, gA_sD, gQ_sI, gQ_sR, gQ_sA, gQ_sL, gQ_sD, gL_sI, gL_sR, gL_sA, gL_sQ, gL_sD, kd_nO, kd_nA, *]) (T := TX3) (N := 27) rfl (by first | assumption | omega) (by first | assumption | omega) (by first | assumption | omega) (Nat.le_of_ble_eq_true rfl) ?_
                  refine s_digit (B := B) (p := q4) (a := 10 * i + 6) (by omega) hM4 hR4 hS4 hp4 (by omega) ?_
                  intro K5 hV5 hS5 hW5
                  have hU5 : MU m ma [90, 93, 94] H K5 := (hU4.tr hV5).sub (by decide)
                  have hM5 := hM.mf hU5.1
                  have e05 := hM5.1
                  have hR5 := hR.mu hU5 (by decide) (by decide)
                  have h945 : gI K5 94 m = nI (i + 1) := by rw [(hV5.2 94 (by decide)).1]; exact h944
                  show AW mX3_item G d Qr Qx _ _ K5 271 _ _
                  rcases ht5 : tk B 48 57 q4 with ⟨o15, q5⟩
                  rw [ht5] at hS5 hW5 hQ
                  cases o15 with
                  | none =>
                    refine r_if_eq (tgt := 278) dX3_item_271 (by decide) (fun h271 => ?_) (fun h271 => ?_)
                    · refine r_iconst (v := nI 0) dX3_item_278 (by decide) ?_
                      refine r_ireturn dX3_item_279 rfl (by first | rfl | assumption | exact vp_nar_int _ | exact pk_nc _) ?_
                      exact hQ K5 hU5 hS5 (fun it hit => by cases hit)
                    · exact absurd rfl h271
                  | some v4 =>
                    have hp5 : q5 ≤ 60 := by have := (tk_some ht5).1; omega
                    have hT5 := hW5 v4 rfl
                    rw [hT4] at hT5
                    simp only [bnd] at hQ
                    refine r_if_eq (tgt := 278) dX3_item_271 (by decide) (fun h271 => ?_) (fun h271 => ?_)
                    · exact absurd h271 (by show ¬ nI 1 = 0; decide)
                    · skip
                      refine r_iconst (v := nI 1) dX3_item_274 (by decide) ?_
                      refine r_goto (tgt := 279) dX3_item_275 (by decide) ?_
                      refine r_ireturn dX3_item_279 rfl (by first | rfl | assumption | exact vp_nar_int _ | exact pk_nc _) ?_
                      refine hQ K5 hU5 hS5 (fun it hit => ?_)
                      cases hit
                      refine ⟨h945, ?_, ?_⟩
                      · rw [hT5]
                        refine ⟨?_, ?_, ?_, ?_, ?_, ?_, ?_, ?_, ?_, ?_⟩
                        · repeat (first | rw [upd_s] | rw [upd_n (by omega)])
                          rw [nameT_o hn3 (by omega)]; exact hsg
                        · repeat (first | rw [upd_s] | rw [upd_n (by omega)])
                          exact nameT_k hn3 (k := 0) (by decide) (hz 1 (by decide) (by decide)) rfl
                        · repeat (first | rw [upd_s] | rw [upd_n (by omega)])
                          exact nameT_k hn3 (k := 1) (by decide) (hz 2 (by decide) (by decide)) rfl
                        · repeat (first | rw [upd_s] | rw [upd_n (by omega)])
                          exact nameT_k hn3 (k := 2) (by decide) (hz 3 (by decide) (by decide)) rfl
                        · repeat (first | rw [upd_s] | rw [upd_n (by omega)])
                          exact nameT_4
                        · repeat (first | rw [upd_s] | rw [upd_n (by omega)])
                          try rfl
                        · repeat (first | rw [upd_s] | rw [upd_n (by omega)])
                          try rfl
                        · repeat (first | rw [upd_s] | rw [upd_n (by omega)])
                          rw [nameT_o hn3 (by omega)]; exact hz 7 (by decide) (by decide)
                        · repeat (first | rw [upd_s] | rw [upd_n (by omega)])
                          rw [nameT_o hn3 (by omega)]; exact hz 8 (by decide) (by decide)
                        · repeat (first | rw [upd_s] | rw [upd_n (by omega)])
                          rw [nameT_o hn3 (by omega)]; exact hz 9 (by decide) (by decide)
                      · intro j hj
                        rw [hT5]
                        repeat (first | rw [upd_s] | rw [upd_n (by omega)])
                        rw [nameT_o hn3 (by omega)]
                        exact ho j hj
theorem itemD {B : List Nat} {p i : Nat} {K0 : AH} {T1 : Nat → Int32} {o2 : Option AV} (hd : 3 ≤ d) (hM : MO H m ma) (hR : BufR H m ma B) (hi : i ≤ 31) (hU0 : MU m ma [90, 93, 94] H K0) (hS0 : gI K0 90 m = nI p) (hp0 : p ≤ 60) (hT0 : gA K0 1093 (ma 93) = T1) (h940 : gI K0 94 m = nI (i + 1)) (hsg : T1 (10 * i) = nI 100) (hz : ∀ j, 1 ≤ j → j < 10 → T1 (10 * i + j) = nI 0) (ho : ∀ j, j < 10 * i → T1 j = gA H 1093 (ma 93) j) (hQ : PItem m ma Qr H i (pD B p)) : AW mX3_item G d Qr Qx 0 0 K0 289 [some (vR (some m)), some (vI (nI (10 * i))), o2] [] := by
  have hb2 := hR.2.1
  unfold pD at hQ
  have hM0 := hM.mf hU0.1
  have e00 := hM0.1
  have hR0 := hR.mu hU0 (by decide) (by decide)
  refine r_aload_n (i := 0) dX3_item_289 rfl rfl ?_
  refine r_iload_n (i := 1) dX3_item_290 rfl rfl ?_
  refine r_callV (As := [_]) (mc' := 0) (ms' := 0) dX3_item_291 k_X3_236 rfl (by first | assumption | (simp only [kd_sI, kd_sR, kd_sA, kd_sQ, kd_sL, kd_sD, ln_sI, ln_sR, ln_sA, ln_sQ, ln_sL, ln_sD, gI_sR, gI_sA, gI_sQ, gI_sL, gI_sD, gR_sI, gR_sA, gR_sQ, gR_sL, gR_sD, gA_sI, gA_sR, gA_sQ, gA_sL, gA_sD, gQ_sI, gQ_sR, gQ_sA, gQ_sL, gQ_sD, gL_sI, gL_sR, gL_sA, gL_sQ, gL_sD]; assumption) | simp [kd_sI, kd_sR, kd_sA, kd_sQ, kd_sL, kd_sD, ln_sI, ln_sR, ln_sA, ln_sQ, ln_sL, ln_sD, gI_sR, gI_sA, gI_sQ, gI_sL, gI_sD, gR_sI, gR_sA, gR_sQ, gR_sL, gR_sD, gA_sI, gA_sR, gA_sQ, gA_sL, gA_sD, gQ_sI, gQ_sR, gQ_sA, gQ_sL, gQ_sD, gL_sI, gL_sR, gL_sA, gL_sQ, gL_sD, kd_nO, kd_nA, *]) (T := TX3) (N := 27) rfl (by first | assumption | omega) (by first | assumption | omega) (by first | assumption | omega) (Nat.le_of_ble_eq_true rfl) ?_
  refine s_name (B := B) (p := p) (a := 10 * i) (by omega) hM0 hR0 hS0 hp0 (by omega) ?_
  intro K1 hV1 hS1 hW1
  have hU1 : MU m ma [90, 93, 94] H K1 := (hU0.tr hV1).sub (by decide)
  have hM1 := hM.mf hU1.1
  have e01 := hM1.1
  have hR1 := hR.mu hU1 (by decide) (by decide)
  have h941 : gI K1 94 m = nI (i + 1) := by rw [(hV1.2 94 (by decide)).1]; exact h940
  show AW mX3_item G d Qr Qx _ _ K1 294 _ _
  rcases ht1 : pName B p with ⟨o11, q1⟩
  rw [ht1] at hS1 hW1 hQ
  cases o11 with
  | none =>
    refine r_if_eq (tgt := 320) dX3_item_294 (by decide) (fun h294 => ?_) (fun h294 => ?_)
    · refine r_iconst (v := nI 0) dX3_item_320 (by decide) ?_
      refine r_ireturn dX3_item_321 rfl (by first | rfl | assumption | exact vp_nar_int _ | exact pk_nc _) ?_
      exact hQ K1 hU1 hS1 (fun it hit => by cases hit)
    · exact absurd rfl h294
  | some nm =>
    have hp1 : q1 ≤ 60 := by have := (pName_some ht1).1; omega
    obtain ⟨hT1, hn3⟩ := hW1 nm rfl
    rw [hT0] at hT1
    simp only [bnd] at hQ
    refine r_if_eq (tgt := 320) dX3_item_294 (by decide) (fun h294 => ?_) (fun h294 => ?_)
    · exact absurd h294 (by show ¬ nI 1 = 0; decide)
    · skip
      refine r_aload_n (i := 0) dX3_item_297 rfl rfl ?_
      refine r_bipush (v := nI 61) dX3_item_298 (by decide) ?_
      refine r_callV (As := [_]) (mc' := 0) (ms' := 0) dX3_item_300 k_X3_233 rfl (by first | assumption | (simp only [kd_sI, kd_sR, kd_sA, kd_sQ, kd_sL, kd_sD, ln_sI, ln_sR, ln_sA, ln_sQ, ln_sL, ln_sD, gI_sR, gI_sA, gI_sQ, gI_sL, gI_sD, gR_sI, gR_sA, gR_sQ, gR_sL, gR_sD, gA_sI, gA_sR, gA_sQ, gA_sL, gA_sD, gQ_sI, gQ_sR, gQ_sA, gQ_sL, gQ_sD, gL_sI, gL_sR, gL_sA, gL_sQ, gL_sD]; assumption) | simp [kd_sI, kd_sR, kd_sA, kd_sQ, kd_sL, kd_sD, ln_sI, ln_sR, ln_sA, ln_sQ, ln_sL, ln_sD, gI_sR, gI_sA, gI_sQ, gI_sL, gI_sD, gR_sI, gR_sA, gR_sQ, gR_sL, gR_sD, gA_sI, gA_sR, gA_sQ, gA_sL, gA_sD, gQ_sI, gQ_sR, gQ_sA, gQ_sL, gQ_sD, gL_sI, gL_sR, gL_sA, gL_sQ, gL_sD, kd_nO, kd_nA, *]) (T := TX3) (N := 27) rfl (by first | assumption | omega) (by first | assumption | omega) (by first | assumption | omega) (Nat.le_of_ble_eq_true rfl) ?_
      refine s_skips (B := B) (p := q1) (c := 61) (by omega) hM1 hR1 hS1 hp1 (by decide) ?_
      intro K2 hV2 hS2
      have hU2 : MU m ma [90, 93, 94] H K2 := (hU1.tr hV2).sub (by decide)
      have hM2 := hM.mf hU2.1
      have e02 := hM2.1
      have hR2 := hR.mu hU2 (by decide) (by decide)
      have h942 : gI K2 94 m = nI (i + 1) := by rw [(hV2.2 94 (by decide)).1]; exact h941
      show AW mX3_item G d Qr Qx _ _ K2 303 _ _
      rcases ht2 : tk B 61 61 q1 with ⟨o12, q2⟩
      rw [ht2] at hS2 hQ
      cases o12 with
      | none =>
        refine r_if_eq (tgt := 320) dX3_item_303 (by decide) (fun h303 => ?_) (fun h303 => ?_)
        · refine r_iconst (v := nI 0) dX3_item_320 (by decide) ?_
          refine r_ireturn dX3_item_321 rfl (by first | rfl | assumption | exact vp_nar_int _ | exact pk_nc _) ?_
          exact hQ K2 hU2 hS2 (fun it hit => by cases hit)
        · exact absurd rfl h303
      | some w1 =>
        have hp2 : q2 ≤ 60 := by have := (tk_some ht2).1; omega
        have hT2 : gA K2 1093 (ma 93) = (nameT T1 nm (10 * i)) := by rw [show gA K2 1093 = gA K1 1093 from (hV2.2 93 (by decide)).2]; exact hT1
        simp only [bnd] at hQ
        refine r_if_eq (tgt := 320) dX3_item_303 (by decide) (fun h303 => ?_) (fun h303 => ?_)
        · exact absurd h303 (by show ¬ nI 1 = 0; decide)
        · skip
          refine r_aload_n (i := 0) dX3_item_306 rfl rfl ?_
          refine r_iload_n (i := 1) dX3_item_307 rfl rfl ?_
          refine r_iconst (v := nI 5) dX3_item_308 (by decide) ?_
          refine r_iadd dX3_item_309 ?_
          try simp only [nI_add, pk_mul, nI_1]
          refine r_callV (As := [_]) (mc' := 0) (ms' := 0) dX3_item_310 k_X3_239 rfl (by first | assumption | (simp only [kd_sI, kd_sR, kd_sA, kd_sQ, kd_sL, kd_sD, ln_sI, ln_sR, ln_sA, ln_sQ, ln_sL, ln_sD, gI_sR, gI_sA, gI_sQ, gI_sL, gI_sD, gR_sI, gR_sA, gR_sQ, gR_sL, gR_sD, gA_sI, gA_sR, gA_sQ, gA_sL, gA_sD, gQ_sI, gQ_sR, gQ_sA, gQ_sL, gQ_sD, gL_sI, gL_sR, gL_sA, gL_sQ, gL_sD]; assumption) | simp [kd_sI, kd_sR, kd_sA, kd_sQ, kd_sL, kd_sD, ln_sI, ln_sR, ln_sA, ln_sQ, ln_sL, ln_sD, gI_sR, gI_sA, gI_sQ, gI_sL, gI_sD, gR_sI, gR_sA, gR_sQ, gR_sL, gR_sD, gA_sI, gA_sR, gA_sQ, gA_sL, gA_sD, gQ_sI, gQ_sR, gQ_sA, gQ_sL, gQ_sD, gL_sI, gL_sR, gL_sA, gL_sQ, gL_sD, kd_nO, kd_nA, *]) (T := TX3) (N := 27) rfl (by first | assumption | omega) (by first | assumption | omega) (by first | assumption | omega) (Nat.le_of_ble_eq_true rfl) ?_
          refine s_number (B := B) (p := q2) (a := 10 * i + 5) (by omega) hM2 hR2 hS2 hp2 (by omega) ?_
          intro K3 hV3 hS3 hW3
          have hU3 : MU m ma [90, 93, 94] H K3 := (hU2.tr hV3).sub (by decide)
          have hM3 := hM.mf hU3.1
          have e03 := hM3.1
          have hR3 := hR.mu hU3 (by decide) (by decide)
          have h943 : gI K3 94 m = nI (i + 1) := by rw [(hV3.2 94 (by decide)).1]; exact h942
          show AW mX3_item G d Qr Qx _ _ K3 313 _ _
          rcases ht3 : pNum B q2 with ⟨o13, q3⟩
          rw [ht3] at hS3 hW3 hQ
          cases o13 with
          | none =>
            refine r_if_eq (tgt := 320) dX3_item_313 (by decide) (fun h313 => ?_) (fun h313 => ?_)
            · refine r_iconst (v := nI 0) dX3_item_320 (by decide) ?_
              refine r_ireturn dX3_item_321 rfl (by first | rfl | assumption | exact vp_nar_int _ | exact pk_nc _) ?_
              exact hQ K3 hU3 hS3 (fun it hit => by cases hit)
            · exact absurd rfl h313
          | some v2 =>
            have hp3 : q3 ≤ 60 := by have := (pNum_some ht3).1; omega
            have hT3 := hW3 v2 rfl
            rw [hT2] at hT3
            simp only [bnd] at hQ
            refine r_if_eq (tgt := 320) dX3_item_313 (by decide) (fun h313 => ?_) (fun h313 => ?_)
            · exact absurd h313 (by show ¬ nI 1 = 0; decide)
            · skip
              refine r_iconst (v := nI 1) dX3_item_316 (by decide) ?_
              refine r_goto (tgt := 321) dX3_item_317 (by decide) ?_
              refine r_ireturn dX3_item_321 rfl (by first | rfl | assumption | exact vp_nar_int _ | exact pk_nc _) ?_
              refine hQ K3 hU3 hS3 (fun it hit => ?_)
              cases hit
              refine ⟨h943, ?_, ?_⟩
              · rw [hT3]
                refine ⟨?_, ?_, ?_, ?_, ?_, ?_, ?_, ?_, ?_, ?_⟩
                · repeat (first | rw [upd_s] | rw [upd_n (by omega)])
                  rw [nameT_o hn3 (by omega)]; exact hsg
                · repeat (first | rw [upd_s] | rw [upd_n (by omega)])
                  exact nameT_k hn3 (k := 0) (by decide) (hz 1 (by decide) (by decide)) rfl
                · repeat (first | rw [upd_s] | rw [upd_n (by omega)])
                  exact nameT_k hn3 (k := 1) (by decide) (hz 2 (by decide) (by decide)) rfl
                · repeat (first | rw [upd_s] | rw [upd_n (by omega)])
                  exact nameT_k hn3 (k := 2) (by decide) (hz 3 (by decide) (by decide)) rfl
                · repeat (first | rw [upd_s] | rw [upd_n (by omega)])
                  exact nameT_4
                · repeat (first | rw [upd_s] | rw [upd_n (by omega)])
                  try rfl
                · repeat (first | rw [upd_s] | rw [upd_n (by omega)])
                  rw [nameT_o hn3 (by omega)]; exact hz 6 (by decide) (by decide)
                · repeat (first | rw [upd_s] | rw [upd_n (by omega)])
                  rw [nameT_o hn3 (by omega)]; exact hz 7 (by decide) (by decide)
                · repeat (first | rw [upd_s] | rw [upd_n (by omega)])
                  rw [nameT_o hn3 (by omega)]; exact hz 8 (by decide) (by decide)
                · repeat (first | rw [upd_s] | rw [upd_n (by omega)])
                  rw [nameT_o hn3 (by omega)]; exact hz 9 (by decide) (by decide)
              · intro j hj
                rw [hT3]
                repeat (first | rw [upd_s] | rw [upd_n (by omega)])
                rw [nameT_o hn3 (by omega)]
                exact ho j hj
theorem s_item {B : List Nat} {p i : Nat} (hd : 3 ≤ d) (hM : MO H m ma) (hR : BufR H m ma B) (hS : gI H 90 m = nI p) (hp : p ≤ 60) (hi : i ≤ 31) (h94 : gI H 94 m = nI i)
    (hQ : PItem m ma Qr H i (pItem B p)) : AMet G d 0 0 yX3_item wX3_item H [vR (some m)] Qr Qx := by
  have e0 := hM.1
  have hb4 := hR.2.2.2
  refine AMet.of (M := mX3_item) (maxL := 3) rfl rfl (Nat.le_of_ble_eq_true rfl) ?_
  show AW mX3_item _ _ _ _ _ _ _ 0 [some (vR (some m)), none, none] []
  refine r_bipush (v := nI 10) dX3_item_0 (by decide) ?_
  refine r_aload_n (i := 0) dX3_item_2 rfl rfl ?_
  refine r_getI dX3_item_3 fR_X3_230 (by first | assumption | (simp only [kd_sI, kd_sR, kd_sA, kd_sQ, kd_sL, kd_sD, ln_sI, ln_sR, ln_sA, ln_sQ, ln_sL, ln_sD, gI_sR, gI_sA, gI_sQ, gI_sL, gI_sD, gR_sI, gR_sA, gR_sQ, gR_sL, gR_sD, gA_sI, gA_sR, gA_sQ, gA_sL, gA_sD, gQ_sI, gQ_sR, gQ_sA, gQ_sL, gQ_sD, gL_sI, gL_sR, gL_sA, gL_sQ, gL_sD]; assumption) | simp [kd_sI, kd_sR, kd_sA, kd_sQ, kd_sL, kd_sD, ln_sI, ln_sR, ln_sA, ln_sQ, ln_sL, ln_sD, gI_sR, gI_sA, gI_sQ, gI_sL, gI_sD, gR_sI, gR_sA, gR_sQ, gR_sL, gR_sD, gA_sI, gA_sR, gA_sQ, gA_sL, gA_sD, gQ_sI, gQ_sR, gQ_sA, gQ_sL, gQ_sD, gL_sI, gL_sR, gL_sA, gL_sQ, gL_sD, kd_nO, kd_nA, *]) (by first | assumption | exact gI_sIs | exact gR_sRs | with_reducible rfl | (simp only [kd_sI, kd_sR, kd_sA, kd_sQ, kd_sL, kd_sD, ln_sI, ln_sR, ln_sA, ln_sQ, ln_sL, ln_sD, gI_sR, gI_sA, gI_sQ, gI_sL, gI_sD, gR_sI, gR_sA, gR_sQ, gR_sL, gR_sD, gA_sI, gA_sR, gA_sQ, gA_sL, gA_sD, gQ_sI, gQ_sR, gQ_sA, gQ_sL, gQ_sD, gL_sI, gL_sR, gL_sA, gL_sQ, gL_sD]; first | done | assumption | with_reducible rfl) | rfl) ?_
  refine r_imul dX3_item_6 ?_
  refine r_istore_n (i := 1) dX3_item_7 rfl (Nat.le_of_ble_eq_true rfl) (by simp only [lset]; rfl) ?_
  refine r_iconst (v := nI 0) dX3_item_8 (by decide) ?_
  refine r_istore_n (i := 2) dX3_item_9 rfl (Nat.le_of_ble_eq_true rfl) (by simp only [lset]; rfl) ?_
  rw [pk_mul]
  have alts : ∀ (K0 : AH) (T1 : Nat → Int32), MU m ma [90, 93, 94] H K0 → gI K0 90 m = nI p → gA K0 1093 (ma 93) = T1 → gI K0 94 m = nI (i + 1) → T1 (10 * i) = hereV B p → (∀ j, 1 ≤ j → j < 10 → T1 (10 * i + j) = nI 0) → (∀ j, j < 10 * i → T1 j = gA H 1093 (ma 93) j) → AW mX3_item G d Qr Qx 0 0 K0 51 [some (vR (some m)), some (vI (nI (10 * i))), some (vI (nI 10))] [] := by
    intro K0 T1 hU0 hS0 hT0 h940 hs hz ho
    unfold pItem at hQ
    have hM0 := hM.mf hU0.1
    have e00 := hM0.1
    have hR0 := hR.mu hU0 (by decide) (by decide)
    refine r_aload_n (i := 0) dX3_item_51 rfl rfl ?_
    refine r_bipush (v := nI 107) dX3_item_52 (by decide) ?_
    refine r_callV (As := [_]) (mc' := 0) (ms' := 0) dX3_item_54 k_X3_233 rfl (by first | assumption | (simp only [kd_sI, kd_sR, kd_sA, kd_sQ, kd_sL, kd_sD, ln_sI, ln_sR, ln_sA, ln_sQ, ln_sL, ln_sD, gI_sR, gI_sA, gI_sQ, gI_sL, gI_sD, gR_sI, gR_sA, gR_sQ, gR_sL, gR_sD, gA_sI, gA_sR, gA_sQ, gA_sL, gA_sD, gQ_sI, gQ_sR, gQ_sA, gQ_sL, gQ_sD, gL_sI, gL_sR, gL_sA, gL_sQ, gL_sD]; assumption) | simp [kd_sI, kd_sR, kd_sA, kd_sQ, kd_sL, kd_sD, ln_sI, ln_sR, ln_sA, ln_sQ, ln_sL, ln_sD, gI_sR, gI_sA, gI_sQ, gI_sL, gI_sD, gR_sI, gR_sA, gR_sQ, gR_sL, gR_sD, gA_sI, gA_sR, gA_sQ, gA_sL, gA_sD, gQ_sI, gQ_sR, gQ_sA, gQ_sL, gQ_sD, gL_sI, gL_sR, gL_sA, gL_sQ, gL_sD, kd_nO, kd_nA, *]) (T := TX3) (N := 27) rfl (by first | assumption | omega) (by first | assumption | omega) (by first | assumption | omega) (Nat.le_of_ble_eq_true rfl) ?_
    refine s_skips (B := B) (p := p) (c := 107) (by omega) hM0 hR0 hS0 hp (by decide) ?_
    intro K1 hV1 hS1
    have hU1 : MU m ma [90, 93, 94] H K1 := (hU0.tr hV1).sub (by decide)
    have h941 : gI K1 94 m = nI (i + 1) := by rw [(hV1.2 94 (by decide)).1]; exact h940
    have hT1 : gA K1 1093 (ma 93) = T1 := by rw [show gA K1 1093 = gA K0 1093 from (hV1.2 93 (by decide)).2]; exact hT0
    show AW mX3_item G d Qr Qx _ _ K1 57 _ _
    unfold tk at hS1 ⊢
    cases hc0 : inR B p 107 107 with
    | true =>
      rw [hc0] at hQ hS1
      simp only [if_true, Bool.false_eq_true, if_false] at hQ hS1 ⊢
      have hlt := (here_c hc0).1
      refine r_if_eq (tgt := 113) dX3_item_57 (by decide) (fun h57 => ?_) (fun h57 => ?_)
      · exact absurd h57 (by show ¬ nI 1 = 0; decide)
      · exact itemK hd hM hR hi hU1 hS1 (by have := hR.2.1; omega) hT1 h941 (by rw [hs]; exact (here_eq hb4 (by decide)).mpr hc0) hz ho hQ
    | false =>
      rw [hc0] at hQ hS1
      simp only [Bool.false_eq_true, if_false] at hQ hS1 ⊢
      refine r_if_eq (tgt := 113) dX3_item_57 (by decide) (fun h57 => ?_) (fun h57 => ?_)
      · skip
        have hM1 := hM.mf hU1.1
        have e01 := hM1.1
        have hR1 := hR.mu hU1 (by decide) (by decide)
        refine r_aload_n (i := 0) dX3_item_113 rfl rfl ?_
        refine r_bipush (v := nI 116) dX3_item_114 (by decide) ?_
        refine r_callV (As := [_]) (mc' := 0) (ms' := 0) dX3_item_116 k_X3_233 rfl (by first | assumption | (simp only [kd_sI, kd_sR, kd_sA, kd_sQ, kd_sL, kd_sD, ln_sI, ln_sR, ln_sA, ln_sQ, ln_sL, ln_sD, gI_sR, gI_sA, gI_sQ, gI_sL, gI_sD, gR_sI, gR_sA, gR_sQ, gR_sL, gR_sD, gA_sI, gA_sR, gA_sQ, gA_sL, gA_sD, gQ_sI, gQ_sR, gQ_sA, gQ_sL, gQ_sD, gL_sI, gL_sR, gL_sA, gL_sQ, gL_sD]; assumption) | simp [kd_sI, kd_sR, kd_sA, kd_sQ, kd_sL, kd_sD, ln_sI, ln_sR, ln_sA, ln_sQ, ln_sL, ln_sD, gI_sR, gI_sA, gI_sQ, gI_sL, gI_sD, gR_sI, gR_sA, gR_sQ, gR_sL, gR_sD, gA_sI, gA_sR, gA_sQ, gA_sL, gA_sD, gQ_sI, gQ_sR, gQ_sA, gQ_sL, gQ_sD, gL_sI, gL_sR, gL_sA, gL_sQ, gL_sD, kd_nO, kd_nA, *]) (T := TX3) (N := 27) rfl (by first | assumption | omega) (by first | assumption | omega) (by first | assumption | omega) (Nat.le_of_ble_eq_true rfl) ?_
        refine s_skips (B := B) (p := p) (c := 116) (by omega) hM1 hR1 hS1 hp (by decide) ?_
        intro K2 hV2 hS2
        have hU2 : MU m ma [90, 93, 94] H K2 := (hU1.tr hV2).sub (by decide)
        have h942 : gI K2 94 m = nI (i + 1) := by rw [(hV2.2 94 (by decide)).1]; exact h941
        have hT2 : gA K2 1093 (ma 93) = T1 := by rw [show gA K2 1093 = gA K1 1093 from (hV2.2 93 (by decide)).2]; exact hT1
        show AW mX3_item G d Qr Qx _ _ K2 119 _ _
        unfold tk at hS2 ⊢
        cases hc1 : inR B p 116 116 with
        | true =>
          rw [hc1] at hQ hS2
          simp only [if_true, Bool.false_eq_true, if_false] at hQ hS2 ⊢
          have hlt := (here_c hc1).1
          refine r_if_eq (tgt := 218) dX3_item_119 (by decide) (fun h119 => ?_) (fun h119 => ?_)
          · exact absurd h119 (by show ¬ nI 1 = 0; decide)
          · exact itemT hd hM hR hi hU2 hS2 (by have := hR.2.1; omega) hT2 h942 (by rw [hs]; exact (here_eq hb4 (by decide)).mpr hc1) hz ho hQ
        | false =>
          rw [hc1] at hQ hS2
          simp only [Bool.false_eq_true, if_false] at hQ hS2 ⊢
          refine r_if_eq (tgt := 218) dX3_item_119 (by decide) (fun h119 => ?_) (fun h119 => ?_)
          · skip
            have hM2 := hM.mf hU2.1
            have e02 := hM2.1
            have hR2 := hR.mu hU2 (by decide) (by decide)
            refine r_aload_n (i := 0) dX3_item_218 rfl rfl ?_
            refine r_bipush (v := nI 99) dX3_item_219 (by decide) ?_
            refine r_callV (As := [_]) (mc' := 0) (ms' := 0) dX3_item_221 k_X3_233 rfl (by first | assumption | (simp only [kd_sI, kd_sR, kd_sA, kd_sQ, kd_sL, kd_sD, ln_sI, ln_sR, ln_sA, ln_sQ, ln_sL, ln_sD, gI_sR, gI_sA, gI_sQ, gI_sL, gI_sD, gR_sI, gR_sA, gR_sQ, gR_sL, gR_sD, gA_sI, gA_sR, gA_sQ, gA_sL, gA_sD, gQ_sI, gQ_sR, gQ_sA, gQ_sL, gQ_sD, gL_sI, gL_sR, gL_sA, gL_sQ, gL_sD]; assumption) | simp [kd_sI, kd_sR, kd_sA, kd_sQ, kd_sL, kd_sD, ln_sI, ln_sR, ln_sA, ln_sQ, ln_sL, ln_sD, gI_sR, gI_sA, gI_sQ, gI_sL, gI_sD, gR_sI, gR_sA, gR_sQ, gR_sL, gR_sD, gA_sI, gA_sR, gA_sQ, gA_sL, gA_sD, gQ_sI, gQ_sR, gQ_sA, gQ_sL, gQ_sD, gL_sI, gL_sR, gL_sA, gL_sQ, gL_sD, kd_nO, kd_nA, *]) (T := TX3) (N := 27) rfl (by first | assumption | omega) (by first | assumption | omega) (by first | assumption | omega) (Nat.le_of_ble_eq_true rfl) ?_
            refine s_skips (B := B) (p := p) (c := 99) (by omega) hM2 hR2 hS2 hp (by decide) ?_
            intro K3 hV3 hS3
            have hU3 : MU m ma [90, 93, 94] H K3 := (hU2.tr hV3).sub (by decide)
            have h943 : gI K3 94 m = nI (i + 1) := by rw [(hV3.2 94 (by decide)).1]; exact h942
            have hT3 : gA K3 1093 (ma 93) = T1 := by rw [show gA K3 1093 = gA K2 1093 from (hV3.2 93 (by decide)).2]; exact hT2
            show AW mX3_item G d Qr Qx _ _ K3 224 _ _
            unfold tk at hS3 ⊢
            cases hc2 : inR B p 99 99 with
            | true =>
              rw [hc2] at hQ hS3
              simp only [if_true, Bool.false_eq_true, if_false] at hQ hS3 ⊢
              have hlt := (here_c hc2).1
              refine r_if_eq (tgt := 280) dX3_item_224 (by decide) (fun h224 => ?_) (fun h224 => ?_)
              · exact absurd h224 (by show ¬ nI 1 = 0; decide)
              · exact itemC hd hM hR hi hU3 hS3 (by have := hR.2.1; omega) hT3 h943 (by rw [hs]; exact (here_eq hb4 (by decide)).mpr hc2) hz ho hQ
            | false =>
              rw [hc2] at hQ hS3
              simp only [Bool.false_eq_true, if_false] at hQ hS3 ⊢
              refine r_if_eq (tgt := 280) dX3_item_224 (by decide) (fun h224 => ?_) (fun h224 => ?_)
              · skip
                have hM3 := hM.mf hU3.1
                have e03 := hM3.1
                have hR3 := hR.mu hU3 (by decide) (by decide)
                refine r_aload_n (i := 0) dX3_item_280 rfl rfl ?_
                refine r_bipush (v := nI 100) dX3_item_281 (by decide) ?_
                refine r_callV (As := [_]) (mc' := 0) (ms' := 0) dX3_item_283 k_X3_233 rfl (by first | assumption | (simp only [kd_sI, kd_sR, kd_sA, kd_sQ, kd_sL, kd_sD, ln_sI, ln_sR, ln_sA, ln_sQ, ln_sL, ln_sD, gI_sR, gI_sA, gI_sQ, gI_sL, gI_sD, gR_sI, gR_sA, gR_sQ, gR_sL, gR_sD, gA_sI, gA_sR, gA_sQ, gA_sL, gA_sD, gQ_sI, gQ_sR, gQ_sA, gQ_sL, gQ_sD, gL_sI, gL_sR, gL_sA, gL_sQ, gL_sD]; assumption) | simp [kd_sI, kd_sR, kd_sA, kd_sQ, kd_sL, kd_sD, ln_sI, ln_sR, ln_sA, ln_sQ, ln_sL, ln_sD, gI_sR, gI_sA, gI_sQ, gI_sL, gI_sD, gR_sI, gR_sA, gR_sQ, gR_sL, gR_sD, gA_sI, gA_sR, gA_sQ, gA_sL, gA_sD, gQ_sI, gQ_sR, gQ_sA, gQ_sL, gQ_sD, gL_sI, gL_sR, gL_sA, gL_sQ, gL_sD, kd_nO, kd_nA, *]) (T := TX3) (N := 27) rfl (by first | assumption | omega) (by first | assumption | omega) (by first | assumption | omega) (Nat.le_of_ble_eq_true rfl) ?_
                refine s_skips (B := B) (p := p) (c := 100) (by omega) hM3 hR3 hS3 hp (by decide) ?_
                intro K4 hV4 hS4
                have hU4 : MU m ma [90, 93, 94] H K4 := (hU3.tr hV4).sub (by decide)
                have h944 : gI K4 94 m = nI (i + 1) := by rw [(hV4.2 94 (by decide)).1]; exact h943
                have hT4 : gA K4 1093 (ma 93) = T1 := by rw [show gA K4 1093 = gA K3 1093 from (hV4.2 93 (by decide)).2]; exact hT3
                show AW mX3_item G d Qr Qx _ _ K4 286 _ _
                unfold tk at hS4 ⊢
                cases hc3 : inR B p 100 100 with
                | true =>
                  rw [hc3] at hQ hS4
                  simp only [if_true, Bool.false_eq_true, if_false] at hQ hS4 ⊢
                  have hlt := (here_c hc3).1
                  refine r_if_eq (tgt := 320) dX3_item_286 (by decide) (fun h286 => ?_) (fun h286 => ?_)
                  · exact absurd h286 (by show ¬ nI 1 = 0; decide)
                  · exact itemD hd hM hR hi hU4 hS4 (by have := hR.2.1; omega) hT4 h944 (by rw [hs]; exact (here_eq hb4 (by decide)).mpr hc3) hz ho hQ
                | false =>
                  rw [hc3] at hQ hS4
                  simp only [Bool.false_eq_true, if_false] at hQ hS4 ⊢
                  refine r_if_eq (tgt := 320) dX3_item_286 (by decide) (fun h286 => ?_) (fun h286 => ?_)
                  · refine r_iconst (v := nI 0) dX3_item_320 (by decide) ?_
                    refine r_ireturn dX3_item_321 rfl (by first | rfl | assumption | exact vp_nar_int _ | exact pk_nc _) ?_
                    exact hQ K4 hU4 hS4 (fun it hit => by cases hit)
                  · exact absurd rfl h286
              · exact absurd rfl h224
          · exact absurd rfl h119
      · exact absurd rfl h57
  have loop : ∀ (k w : Nat) (H1 : AH), w + k = 10 → MU m ma [93] H H1 → (∀ j, j < w → gA H1 1093 (ma 93) (10 * i + j) = nI 0) → (∀ j, j < 10 * i → gA H1 1093 (ma 93) j = gA H 1093 (ma 93) j) → AW mX3_item G d Qr Qx 0 0 H1 10 [some (vR (some m)), some (vI (nI (10 * i))), some (vI (nI w))] [] := by
    intro k
    induction k with
    | zero =>
      intro w H1 hw hU hz ho
      have hM1 := hM.mf hU.1
      have e01 := hM1.1
      have hR1 := hR.mu hU (by decide) (by decide)
      have hS1 : gI H1 90 m = nI p := by rw [(hU.2 90 (by decide)).1]; exact hS
      have h941 : gI H1 94 m = nI i := by rw [(hU.2 94 (by decide)).1]; exact h94
      rw [show w = 10 by omega] at hz ⊢
      obtain ⟨e93a_1, e93b_1, e93c_1⟩ : gR H1 93 m = some (ma 93) ∧ kd H1 (ma 93) = 1093 ∧ ln H1 (ma 93) = 320 := hM1.2 93 (by decide)
      refine r_iload_n (i := 2) dX3_item_10 rfl rfl ?_
      refine r_bipush (v := nI 10) dX3_item_11 (by decide) ?_
      refine r_icmp_ge (tgt := 31) dX3_item_13 (by decide) (fun h13 => ?_) (fun h13 => ?_)
      · refine r_aload_n (i := 0) dX3_item_31 rfl rfl ?_
        refine r_getR dX3_item_32 fR_X3_60 (by first | assumption | (simp only [kd_sI, kd_sR, kd_sA, kd_sQ, kd_sL, kd_sD, ln_sI, ln_sR, ln_sA, ln_sQ, ln_sL, ln_sD, gI_sR, gI_sA, gI_sQ, gI_sL, gI_sD, gR_sI, gR_sA, gR_sQ, gR_sL, gR_sD, gA_sI, gA_sR, gA_sQ, gA_sL, gA_sD, gQ_sI, gQ_sR, gQ_sA, gQ_sL, gQ_sD, gL_sI, gL_sR, gL_sA, gL_sQ, gL_sD]; assumption) | simp [kd_sI, kd_sR, kd_sA, kd_sQ, kd_sL, kd_sD, ln_sI, ln_sR, ln_sA, ln_sQ, ln_sL, ln_sD, gI_sR, gI_sA, gI_sQ, gI_sL, gI_sD, gR_sI, gR_sA, gR_sQ, gR_sL, gR_sD, gA_sI, gA_sR, gA_sQ, gA_sL, gA_sD, gQ_sI, gQ_sR, gQ_sA, gQ_sL, gQ_sD, gL_sI, gL_sR, gL_sA, gL_sQ, gL_sD, kd_nO, kd_nA, *]) (by first | assumption | exact gI_sIs | exact gR_sRs | with_reducible rfl | (simp only [kd_sI, kd_sR, kd_sA, kd_sQ, kd_sL, kd_sD, ln_sI, ln_sR, ln_sA, ln_sQ, ln_sL, ln_sD, gI_sR, gI_sA, gI_sQ, gI_sL, gI_sD, gR_sI, gR_sA, gR_sQ, gR_sL, gR_sD, gA_sI, gA_sR, gA_sQ, gA_sL, gA_sD, gQ_sI, gQ_sR, gQ_sA, gQ_sL, gQ_sD, gL_sI, gL_sR, gL_sA, gL_sQ, gL_sD]; first | done | assumption | with_reducible rfl) | rfl) ?_
        refine r_iload_n (i := 1) dX3_item_35 rfl rfl ?_
        refine r_aload_n (i := 0) dX3_item_36 rfl rfl ?_
        refine r_callV (As := []) (mc' := 0) (ms' := 0) dX3_item_37 k_X3_224 rfl (by first | assumption | (simp only [kd_sI, kd_sR, kd_sA, kd_sQ, kd_sL, kd_sD, ln_sI, ln_sR, ln_sA, ln_sQ, ln_sL, ln_sD, gI_sR, gI_sA, gI_sQ, gI_sL, gI_sD, gR_sI, gR_sA, gR_sQ, gR_sL, gR_sD, gA_sI, gA_sR, gA_sQ, gA_sL, gA_sD, gQ_sI, gQ_sR, gQ_sA, gQ_sL, gQ_sD, gL_sI, gL_sR, gL_sA, gL_sQ, gL_sD]; assumption) | simp [kd_sI, kd_sR, kd_sA, kd_sQ, kd_sL, kd_sD, ln_sI, ln_sR, ln_sA, ln_sQ, ln_sL, ln_sD, gI_sR, gI_sA, gI_sQ, gI_sL, gI_sD, gR_sI, gR_sA, gR_sQ, gR_sL, gR_sD, gA_sI, gA_sR, gA_sQ, gA_sL, gA_sD, gQ_sI, gQ_sR, gQ_sA, gQ_sL, gQ_sD, gL_sI, gL_sR, gL_sA, gL_sQ, gL_sD, kd_nO, kd_nA, *]) (T := TX3) (N := 27) rfl (by first | assumption | omega) (by first | assumption | omega) (by first | assumption | omega) (Nat.le_of_ble_eq_true rfl) ?_
        refine s_here hM1 hR1 hS1 hp ?_
        refine r_iast dX3_item_40 (by first | assumption | (simp only [kd_sI, kd_sR, kd_sA, kd_sQ, kd_sL, kd_sD, ln_sI, ln_sR, ln_sA, ln_sQ, ln_sL, ln_sD, gI_sR, gI_sA, gI_sQ, gI_sL, gI_sD, gR_sI, gR_sA, gR_sQ, gR_sL, gR_sD, gA_sI, gA_sR, gA_sQ, gA_sL, gA_sD, gQ_sI, gQ_sR, gQ_sA, gQ_sL, gQ_sD, gL_sI, gL_sR, gL_sA, gL_sQ, gL_sD]; assumption) | simp [kd_sI, kd_sR, kd_sA, kd_sQ, kd_sL, kd_sD, ln_sI, ln_sR, ln_sA, ln_sQ, ln_sL, ln_sD, gI_sR, gI_sA, gI_sQ, gI_sL, gI_sD, gR_sI, gR_sA, gR_sQ, gR_sL, gR_sD, gA_sI, gA_sR, gA_sQ, gA_sL, gA_sD, gQ_sI, gQ_sR, gQ_sA, gQ_sL, gQ_sD, gL_sI, gL_sR, gL_sA, gL_sQ, gL_sD, kd_nO, kd_nA, *]) (by first | decide | assumption) (by first | assumption | exact gI_sIs | exact gR_sRs | with_reducible rfl | (simp only [kd_sI, kd_sR, kd_sA, kd_sQ, kd_sL, kd_sD, ln_sI, ln_sR, ln_sA, ln_sQ, ln_sL, ln_sD, gI_sR, gI_sA, gI_sQ, gI_sL, gI_sD, gR_sI, gR_sA, gR_sQ, gR_sL, gR_sD, gA_sI, gA_sR, gA_sQ, gA_sL, gA_sD, gQ_sI, gQ_sR, gQ_sA, gQ_sL, gQ_sD, gL_sI, gL_sR, gL_sA, gL_sQ, gL_sD]; first | done | assumption | with_reducible rfl) | rfl) (by first | with_reducible rfl | assumption | (simp only [nI_add, pk_mul, nI_1]; with_reducible rfl)) (by first | assumption | omega) (by first | assumption | omega) ?_
        refine r_aload_n (i := 0) dX3_item_41 rfl rfl ?_
        refine r_dup dX3_item_42 rfl ?_
        refine r_getI dX3_item_43 fR_X3_230 (by first | assumption | (simp only [kd_sI, kd_sR, kd_sA, kd_sQ, kd_sL, kd_sD, ln_sI, ln_sR, ln_sA, ln_sQ, ln_sL, ln_sD, gI_sR, gI_sA, gI_sQ, gI_sL, gI_sD, gR_sI, gR_sA, gR_sQ, gR_sL, gR_sD, gA_sI, gA_sR, gA_sQ, gA_sL, gA_sD, gQ_sI, gQ_sR, gQ_sA, gQ_sL, gQ_sD, gL_sI, gL_sR, gL_sA, gL_sQ, gL_sD]; assumption) | simp [kd_sI, kd_sR, kd_sA, kd_sQ, kd_sL, kd_sD, ln_sI, ln_sR, ln_sA, ln_sQ, ln_sL, ln_sD, gI_sR, gI_sA, gI_sQ, gI_sL, gI_sD, gR_sI, gR_sA, gR_sQ, gR_sL, gR_sD, gA_sI, gA_sR, gA_sQ, gA_sL, gA_sD, gQ_sI, gQ_sR, gQ_sA, gQ_sL, gQ_sD, gL_sI, gL_sR, gL_sA, gL_sQ, gL_sD, kd_nO, kd_nA, *]) (by first | assumption | exact gI_sIs | exact gR_sRs | with_reducible rfl | (simp only [kd_sI, kd_sR, kd_sA, kd_sQ, kd_sL, kd_sD, ln_sI, ln_sR, ln_sA, ln_sQ, ln_sL, ln_sD, gI_sR, gI_sA, gI_sQ, gI_sL, gI_sD, gR_sI, gR_sA, gR_sQ, gR_sL, gR_sD, gA_sI, gA_sR, gA_sQ, gA_sL, gA_sD, gQ_sI, gQ_sR, gQ_sA, gQ_sL, gQ_sD, gL_sI, gL_sR, gL_sA, gL_sQ, gL_sD]; first | done | assumption | with_reducible rfl) | rfl) ?_
        refine r_iconst (v := nI 1) dX3_item_46 (by decide) ?_
        refine r_iadd dX3_item_47 ?_
        refine r_putI dX3_item_48 fG_X3_230 (fun _ => by first | rfl | contradiction) (by first | assumption | (simp only [kd_sI, kd_sR, kd_sA, kd_sQ, kd_sL, kd_sD, ln_sI, ln_sR, ln_sA, ln_sQ, ln_sL, ln_sD, gI_sR, gI_sA, gI_sQ, gI_sL, gI_sD, gR_sI, gR_sA, gR_sQ, gR_sL, gR_sD, gA_sI, gA_sR, gA_sQ, gA_sL, gA_sD, gQ_sI, gQ_sR, gQ_sA, gQ_sL, gQ_sD, gL_sI, gL_sR, gL_sA, gL_sQ, gL_sD]; assumption) | simp [kd_sI, kd_sR, kd_sA, kd_sQ, kd_sL, kd_sD, ln_sI, ln_sR, ln_sA, ln_sQ, ln_sL, ln_sD, gI_sR, gI_sA, gI_sQ, gI_sL, gI_sD, gR_sI, gR_sA, gR_sQ, gR_sL, gR_sD, gA_sI, gA_sR, gA_sQ, gA_sL, gA_sD, gQ_sI, gQ_sR, gQ_sA, gQ_sL, gQ_sD, gL_sI, gL_sR, gL_sA, gL_sQ, gL_sD, kd_nO, kd_nA, *]) (by first | rfl | assumption) (by first | rfl | assumption) ?_
        rw [nI_add]
        refine alts _ _ ((((hU.sub (fs' := [93, 94]) (by decide)).sA (f := 93) (Or.inl (by decide)) (by decide) (by decide)).sI (f := 94) (by decide) (by decide) (by decide)).sub (by decide)) (by rw [gI_sI, if_neg (by omega)]; exact hS1) rfl gI_sIs ?_ ?_ ?_
        · show gA (sA H1 1093 (ma 93) _) 1093 (ma 93) _ = _
          rw [gA_sAs, upd_s]
        · intro j h1 h2
          show gA (sA H1 1093 (ma 93) _) 1093 (ma 93) _ = _
          rw [gA_sAs, upd_n (by omega)]
          exact hz j h2
        · intro j hj
          show gA (sA H1 1093 (ma 93) _) 1093 (ma 93) _ = _
          rw [gA_sAs, upd_n (by omega)]
          exact ho j hj
      · exact absurd (by decide) h13
    | succ k ih =>
      intro w H1 hw hU hz ho
      have hM1 := hM.mf hU.1
      have e01 := hM1.1
      obtain ⟨e93a_1, e93b_1, e93c_1⟩ : gR H1 93 m = some (ma 93) ∧ kd H1 (ma 93) = 1093 ∧ ln H1 (ma 93) = 320 := hM1.2 93 (by decide)
      refine r_iload_n (i := 2) dX3_item_10 rfl rfl ?_
      refine r_bipush (v := nI 10) dX3_item_11 (by decide) ?_
      refine r_icmp_ge (tgt := 31) dX3_item_13 (by decide) (fun h13 => ?_) (fun h13 => ?_)
      · exact absurd h13 (nI_ge (by omega) (by omega))
      · refine r_aload_n (i := 0) dX3_item_16 rfl rfl ?_
        refine r_getR dX3_item_17 fR_X3_60 (by first | assumption | (simp only [kd_sI, kd_sR, kd_sA, kd_sQ, kd_sL, kd_sD, ln_sI, ln_sR, ln_sA, ln_sQ, ln_sL, ln_sD, gI_sR, gI_sA, gI_sQ, gI_sL, gI_sD, gR_sI, gR_sA, gR_sQ, gR_sL, gR_sD, gA_sI, gA_sR, gA_sQ, gA_sL, gA_sD, gQ_sI, gQ_sR, gQ_sA, gQ_sL, gQ_sD, gL_sI, gL_sR, gL_sA, gL_sQ, gL_sD]; assumption) | simp [kd_sI, kd_sR, kd_sA, kd_sQ, kd_sL, kd_sD, ln_sI, ln_sR, ln_sA, ln_sQ, ln_sL, ln_sD, gI_sR, gI_sA, gI_sQ, gI_sL, gI_sD, gR_sI, gR_sA, gR_sQ, gR_sL, gR_sD, gA_sI, gA_sR, gA_sQ, gA_sL, gA_sD, gQ_sI, gQ_sR, gQ_sA, gQ_sL, gQ_sD, gL_sI, gL_sR, gL_sA, gL_sQ, gL_sD, kd_nO, kd_nA, *]) (by first | assumption | exact gI_sIs | exact gR_sRs | with_reducible rfl | (simp only [kd_sI, kd_sR, kd_sA, kd_sQ, kd_sL, kd_sD, ln_sI, ln_sR, ln_sA, ln_sQ, ln_sL, ln_sD, gI_sR, gI_sA, gI_sQ, gI_sL, gI_sD, gR_sI, gR_sA, gR_sQ, gR_sL, gR_sD, gA_sI, gA_sR, gA_sQ, gA_sL, gA_sD, gQ_sI, gQ_sR, gQ_sA, gQ_sL, gQ_sD, gL_sI, gL_sR, gL_sA, gL_sQ, gL_sD]; first | done | assumption | with_reducible rfl) | rfl) ?_
        refine r_iload_n (i := 1) dX3_item_20 rfl rfl ?_
        refine r_iload_n (i := 2) dX3_item_21 rfl rfl ?_
        refine r_iadd dX3_item_22 ?_
        refine r_iconst (v := nI 0) dX3_item_23 (by decide) ?_
        refine r_iast dX3_item_24 (by first | assumption | (simp only [kd_sI, kd_sR, kd_sA, kd_sQ, kd_sL, kd_sD, ln_sI, ln_sR, ln_sA, ln_sQ, ln_sL, ln_sD, gI_sR, gI_sA, gI_sQ, gI_sL, gI_sD, gR_sI, gR_sA, gR_sQ, gR_sL, gR_sD, gA_sI, gA_sR, gA_sQ, gA_sL, gA_sD, gQ_sI, gQ_sR, gQ_sA, gQ_sL, gQ_sD, gL_sI, gL_sR, gL_sA, gL_sQ, gL_sD]; assumption) | simp [kd_sI, kd_sR, kd_sA, kd_sQ, kd_sL, kd_sD, ln_sI, ln_sR, ln_sA, ln_sQ, ln_sL, ln_sD, gI_sR, gI_sA, gI_sQ, gI_sL, gI_sD, gR_sI, gR_sA, gR_sQ, gR_sL, gR_sD, gA_sI, gA_sR, gA_sQ, gA_sL, gA_sD, gQ_sI, gQ_sR, gQ_sA, gQ_sL, gQ_sD, gL_sI, gL_sR, gL_sA, gL_sQ, gL_sD, kd_nO, kd_nA, *]) (by first | decide | assumption) (by first | assumption | exact gI_sIs | exact gR_sRs | with_reducible rfl | (simp only [kd_sI, kd_sR, kd_sA, kd_sQ, kd_sL, kd_sD, ln_sI, ln_sR, ln_sA, ln_sQ, ln_sL, ln_sD, gI_sR, gI_sA, gI_sQ, gI_sL, gI_sD, gR_sI, gR_sA, gR_sQ, gR_sL, gR_sD, gA_sI, gA_sR, gA_sQ, gA_sL, gA_sD, gQ_sI, gQ_sR, gQ_sA, gQ_sL, gQ_sD, gL_sI, gL_sR, gL_sA, gL_sQ, gL_sD]; first | done | assumption | with_reducible rfl) | rfl) (by first | with_reducible rfl | assumption | (simp only [nI_add, pk_mul, nI_1]; with_reducible rfl)) (by first | assumption | omega) (by first | assumption | omega) ?_
        refine r_iinc dX3_item_25 rfl (by first | exact nI_1 _ | rfl) (by simp only [lset]; rfl) ?_
        refine r_goto (tgt := 10) dX3_item_28 (by decide) ?_
        refine ih (w + 1) _ (by omega) (hU.sA (f := 93) (Or.inl (by decide)) (by decide) (by decide)) ?_ ?_
        · intro j hj
          rw [gA_sAs]
          by_cases h : j = w
          · rw [h, upd_s]
          · rw [upd_n (by omega)]; exact hz j (by omega)
        · intro j hj
          rw [gA_sAs, upd_n (by omega)]
          exact ho j hj
  exact loop 10 0 H (by omega) MU.rf (fun j hj => absurd hj (by omega)) (fun _ _ => rfl)
end Mo21
