set_option maxRecDepth 100000
def p_pos (w : Option Nat) : Nat × Int32 := match w with
  | none => (1, nI 0)
  | some p => (0, nI p)
def rF : List Nat := [68, 70, 72, 73, 74, 77, 89, 90, 91, 92, 93, 94]
/-- what read does: code, answer, g, what can be undone, error position, refused item -/
def u_read (g : Nat → Int32) (L : List (Nat → Int32)) (B : List Nat) (w r : Option Nat) : URes × Option Nat × Option Nat :=
  match pText B with
  | (none, q) => ((1, nI 0, g, L), some q, r)
  | (some its, _) => if (runC its 0 g).1 < its.length then ((2, nI 0, g, L), w, some (runC its 0 g).1) else ((0, nI its.length, (runC its 0 g).2, keepL L g), w, r)
theorem runC_le : ∀ (its : List Itm) (n : Nat) (g : Nat → Int32), n ≤ (runC its n g).1 ∧ (runC its n g).1 ≤ n + its.length := by
  intro its
  induction its with
  | nil => intro n g; exact ⟨Nat.le_refl _, Nat.le_refl _⟩
  | cons it its ih =>
    intro n g
    unfold runC
    cases carryF g it with
    | none => exact ⟨Nat.le_refl _, by show n ≤ _; omega⟩
    | some g' =>
      obtain ⟨a, b⟩ := ih (n + 1) g'
      refine ⟨?_, ?_⟩
      · show n ≤ (runC its (n + 1) g').1; omega
      · show (runC its (n + 1) g').1 ≤ _
        rw [List.length_cons]; omega
section Mo24
variable {G : Gl} {d m : Nat} {ma : Nat → Nat} {Qr : Option AV → AH → Prop} {Qx : String → Nat → AH → Prop} {H : AH}
theorem s_errorPosition {w : Option Nat} (hM : MO H m ma) (hW : gI H 91 m = oI w) (hw : ∀ p, w = some p → p < 65536) (hQ : Qr (some (vI (p_pos w).2)) (sI H 77 m (nI (p_pos w).1))) : AMet G d 0 0 yX3_errorPosition wX3_errorPosition H [vR (some m)] Qr Qx := by
  have e0 := hM.1
  refine AMet.of (M := mX3_errorPosition) (maxL := 1) rfl rfl (Nat.le_of_ble_eq_true rfl) ?_
  show AW mX3_errorPosition _ _ _ _ _ _ _ 0 [some (vR (some m))] []
  cases w with
  | none =>
    refine r_aload_n (i := 0) dX3_errorPosition_0 rfl rfl ?_
    refine r_aload_n (i := 0) dX3_errorPosition_1 rfl rfl ?_
    refine r_getI dX3_errorPosition_2 fR_X3_53 (by first | assumption | (simp only [kd_sI, kd_sR, kd_sA, kd_sQ, kd_sL, kd_sD, ln_sI, ln_sR, ln_sA, ln_sQ, ln_sL, ln_sD, gI_sR, gI_sA, gI_sQ, gI_sL, gI_sD, gR_sI, gR_sA, gR_sQ, gR_sL, gR_sD, gA_sI, gA_sR, gA_sQ, gA_sL, gA_sD, gQ_sI, gQ_sR, gQ_sA, gQ_sL, gQ_sD, gL_sI, gL_sR, gL_sA, gL_sQ, gL_sD]; assumption) | simp [kd_sI, kd_sR, kd_sA, kd_sQ, kd_sL, kd_sD, ln_sI, ln_sR, ln_sA, ln_sQ, ln_sL, ln_sD, gI_sR, gI_sA, gI_sQ, gI_sL, gI_sD, gR_sI, gR_sA, gR_sQ, gR_sL, gR_sD, gA_sI, gA_sR, gA_sQ, gA_sL, gA_sD, gQ_sI, gQ_sR, gQ_sA, gQ_sL, gQ_sD, gL_sI, gL_sR, gL_sA, gL_sQ, gL_sD, kd_nO, kd_nA, *]) (by first | assumption | exact gI_sIs | exact gR_sRs | with_reducible rfl | (simp only [kd_sI, kd_sR, kd_sA, kd_sQ, kd_sL, kd_sD, ln_sI, ln_sR, ln_sA, ln_sQ, ln_sL, ln_sD, gI_sR, gI_sA, gI_sQ, gI_sL, gI_sD, gR_sI, gR_sA, gR_sQ, gR_sL, gR_sD, gA_sI, gA_sR, gA_sQ, gA_sL, gA_sD, gQ_sI, gQ_sR, gQ_sA, gQ_sL, gQ_sD, gL_sI, gL_sR, gL_sA, gL_sQ, gL_sD]; first | done | assumption | with_reducible rfl) | rfl) ?_
    refine r_if_ge (tgt := 12) dX3_errorPosition_5 (by decide) (fun h5 => ?_) (fun h5 => ?_)
    · exact absurd h5 (by show ¬ (0 : Int32) ≤ -1; decide)
    · refine r_iconst (v := nI 1) dX3_errorPosition_8 (by decide) ?_
      refine r_goto (tgt := 13) dX3_errorPosition_9 (by decide) ?_
      refine r_putI dX3_errorPosition_13 fG_X3_66 (fun _ => by first | rfl | contradiction) (by first | assumption | (simp only [kd_sI, kd_sR, kd_sA, kd_sQ, kd_sL, kd_sD, ln_sI, ln_sR, ln_sA, ln_sQ, ln_sL, ln_sD, gI_sR, gI_sA, gI_sQ, gI_sL, gI_sD, gR_sI, gR_sA, gR_sQ, gR_sL, gR_sD, gA_sI, gA_sR, gA_sQ, gA_sL, gA_sD, gQ_sI, gQ_sR, gQ_sA, gQ_sL, gQ_sD, gL_sI, gL_sR, gL_sA, gL_sQ, gL_sD]; assumption) | simp [kd_sI, kd_sR, kd_sA, kd_sQ, kd_sL, kd_sD, ln_sI, ln_sR, ln_sA, ln_sQ, ln_sL, ln_sD, gI_sR, gI_sA, gI_sQ, gI_sL, gI_sD, gR_sI, gR_sA, gR_sQ, gR_sL, gR_sD, gA_sI, gA_sR, gA_sQ, gA_sL, gA_sD, gQ_sI, gQ_sR, gQ_sA, gQ_sL, gQ_sD, gL_sI, gL_sR, gL_sA, gL_sQ, gL_sD, kd_nO, kd_nA, *]) (by first | rfl | assumption) (by first | rfl | assumption) ?_
      refine r_aload_n (i := 0) dX3_errorPosition_16 rfl rfl ?_
      refine r_getI dX3_errorPosition_17 fR_X3_66 (by first | assumption | (simp only [kd_sI, kd_sR, kd_sA, kd_sQ, kd_sL, kd_sD, ln_sI, ln_sR, ln_sA, ln_sQ, ln_sL, ln_sD, gI_sR, gI_sA, gI_sQ, gI_sL, gI_sD, gR_sI, gR_sA, gR_sQ, gR_sL, gR_sD, gA_sI, gA_sR, gA_sQ, gA_sL, gA_sD, gQ_sI, gQ_sR, gQ_sA, gQ_sL, gQ_sD, gL_sI, gL_sR, gL_sA, gL_sQ, gL_sD]; assumption) | simp [kd_sI, kd_sR, kd_sA, kd_sQ, kd_sL, kd_sD, ln_sI, ln_sR, ln_sA, ln_sQ, ln_sL, ln_sD, gI_sR, gI_sA, gI_sQ, gI_sL, gI_sD, gR_sI, gR_sA, gR_sQ, gR_sL, gR_sD, gA_sI, gA_sR, gA_sQ, gA_sL, gA_sD, gQ_sI, gQ_sR, gQ_sA, gQ_sL, gQ_sD, gL_sI, gL_sR, gL_sA, gL_sQ, gL_sD, kd_nO, kd_nA, *]) (by first | assumption | exact gI_sIs | exact gR_sRs | with_reducible rfl | (simp only [kd_sI, kd_sR, kd_sA, kd_sQ, kd_sL, kd_sD, ln_sI, ln_sR, ln_sA, ln_sQ, ln_sL, ln_sD, gI_sR, gI_sA, gI_sQ, gI_sL, gI_sD, gR_sI, gR_sA, gR_sQ, gR_sL, gR_sD, gA_sI, gA_sR, gA_sQ, gA_sL, gA_sD, gQ_sI, gQ_sR, gQ_sA, gQ_sL, gQ_sD, gL_sI, gL_sR, gL_sA, gL_sQ, gL_sD]; first | done | assumption | with_reducible rfl) | rfl) ?_
      refine r_if_le (tgt := 27) dX3_errorPosition_20 (by decide) (fun h20 => ?_) (fun h20 => ?_)
      · exact absurd h20 (by decide)
      · refine r_iconst (v := nI 0) dX3_errorPosition_23 (by decide) ?_
        refine r_goto (tgt := 31) dX3_errorPosition_24 (by decide) ?_
        refine r_ireturn dX3_errorPosition_31 rfl (by first | rfl | assumption | exact vp_nar_int _ | exact pk_nc _) ?_
        exact hQ
  | some p =>
    have := hw p rfl
    refine r_aload_n (i := 0) dX3_errorPosition_0 rfl rfl ?_
    refine r_aload_n (i := 0) dX3_errorPosition_1 rfl rfl ?_
    refine r_getI dX3_errorPosition_2 fR_X3_53 (by first | assumption | (simp only [kd_sI, kd_sR, kd_sA, kd_sQ, kd_sL, kd_sD, ln_sI, ln_sR, ln_sA, ln_sQ, ln_sL, ln_sD, gI_sR, gI_sA, gI_sQ, gI_sL, gI_sD, gR_sI, gR_sA, gR_sQ, gR_sL, gR_sD, gA_sI, gA_sR, gA_sQ, gA_sL, gA_sD, gQ_sI, gQ_sR, gQ_sA, gQ_sL, gQ_sD, gL_sI, gL_sR, gL_sA, gL_sQ, gL_sD]; assumption) | simp [kd_sI, kd_sR, kd_sA, kd_sQ, kd_sL, kd_sD, ln_sI, ln_sR, ln_sA, ln_sQ, ln_sL, ln_sD, gI_sR, gI_sA, gI_sQ, gI_sL, gI_sD, gR_sI, gR_sA, gR_sQ, gR_sL, gR_sD, gA_sI, gA_sR, gA_sQ, gA_sL, gA_sD, gQ_sI, gQ_sR, gQ_sA, gQ_sL, gQ_sD, gL_sI, gL_sR, gL_sA, gL_sQ, gL_sD, kd_nO, kd_nA, *]) (by first | assumption | exact gI_sIs | exact gR_sRs | with_reducible rfl | (simp only [kd_sI, kd_sR, kd_sA, kd_sQ, kd_sL, kd_sD, ln_sI, ln_sR, ln_sA, ln_sQ, ln_sL, ln_sD, gI_sR, gI_sA, gI_sQ, gI_sL, gI_sD, gR_sI, gR_sA, gR_sQ, gR_sL, gR_sD, gA_sI, gA_sR, gA_sQ, gA_sL, gA_sD, gQ_sI, gQ_sR, gQ_sA, gQ_sL, gQ_sD, gL_sI, gL_sR, gL_sA, gL_sQ, gL_sD]; first | done | assumption | with_reducible rfl) | rfl) ?_
    refine r_if_ge (tgt := 12) dX3_errorPosition_5 (by decide) (fun h5 => ?_) (fun h5 => ?_)
    · have hW2 : gI (sI H 77 m (nI 0)) 91 m = nI p := by rw [gI_sI, if_neg (by omega)]; exact hW
      refine r_iconst (v := nI 0) dX3_errorPosition_12 (by decide) ?_
      refine r_putI dX3_errorPosition_13 fG_X3_66 (fun _ => by first | rfl | contradiction) (by first | assumption | (simp only [kd_sI, kd_sR, kd_sA, kd_sQ, kd_sL, kd_sD, ln_sI, ln_sR, ln_sA, ln_sQ, ln_sL, ln_sD, gI_sR, gI_sA, gI_sQ, gI_sL, gI_sD, gR_sI, gR_sA, gR_sQ, gR_sL, gR_sD, gA_sI, gA_sR, gA_sQ, gA_sL, gA_sD, gQ_sI, gQ_sR, gQ_sA, gQ_sL, gQ_sD, gL_sI, gL_sR, gL_sA, gL_sQ, gL_sD]; assumption) | simp [kd_sI, kd_sR, kd_sA, kd_sQ, kd_sL, kd_sD, ln_sI, ln_sR, ln_sA, ln_sQ, ln_sL, ln_sD, gI_sR, gI_sA, gI_sQ, gI_sL, gI_sD, gR_sI, gR_sA, gR_sQ, gR_sL, gR_sD, gA_sI, gA_sR, gA_sQ, gA_sL, gA_sD, gQ_sI, gQ_sR, gQ_sA, gQ_sL, gQ_sD, gL_sI, gL_sR, gL_sA, gL_sQ, gL_sD, kd_nO, kd_nA, *]) (by first | rfl | assumption) (by first | rfl | assumption) ?_
      refine r_aload_n (i := 0) dX3_errorPosition_16 rfl rfl ?_
      refine r_getI dX3_errorPosition_17 fR_X3_66 (by first | assumption | (simp only [kd_sI, kd_sR, kd_sA, kd_sQ, kd_sL, kd_sD, ln_sI, ln_sR, ln_sA, ln_sQ, ln_sL, ln_sD, gI_sR, gI_sA, gI_sQ, gI_sL, gI_sD, gR_sI, gR_sA, gR_sQ, gR_sL, gR_sD, gA_sI, gA_sR, gA_sQ, gA_sL, gA_sD, gQ_sI, gQ_sR, gQ_sA, gQ_sL, gQ_sD, gL_sI, gL_sR, gL_sA, gL_sQ, gL_sD]; assumption) | simp [kd_sI, kd_sR, kd_sA, kd_sQ, kd_sL, kd_sD, ln_sI, ln_sR, ln_sA, ln_sQ, ln_sL, ln_sD, gI_sR, gI_sA, gI_sQ, gI_sL, gI_sD, gR_sI, gR_sA, gR_sQ, gR_sL, gR_sD, gA_sI, gA_sR, gA_sQ, gA_sL, gA_sD, gQ_sI, gQ_sR, gQ_sA, gQ_sL, gQ_sD, gL_sI, gL_sR, gL_sA, gL_sQ, gL_sD, kd_nO, kd_nA, *]) (by first | assumption | exact gI_sIs | exact gR_sRs | with_reducible rfl | (simp only [kd_sI, kd_sR, kd_sA, kd_sQ, kd_sL, kd_sD, ln_sI, ln_sR, ln_sA, ln_sQ, ln_sL, ln_sD, gI_sR, gI_sA, gI_sQ, gI_sL, gI_sD, gR_sI, gR_sA, gR_sQ, gR_sL, gR_sD, gA_sI, gA_sR, gA_sQ, gA_sL, gA_sD, gQ_sI, gQ_sR, gQ_sA, gQ_sL, gQ_sD, gL_sI, gL_sR, gL_sA, gL_sQ, gL_sD]; first | done | assumption | with_reducible rfl) | rfl) ?_
      refine r_if_le (tgt := 27) dX3_errorPosition_20 (by decide) (fun h20 => ?_) (fun h20 => ?_)
      · refine r_aload_n (i := 0) dX3_errorPosition_27 rfl rfl ?_
        refine r_getI dX3_errorPosition_28 fR_X3_53 (by first | assumption | (simp only [kd_sI, kd_sR, kd_sA, kd_sQ, kd_sL, kd_sD, ln_sI, ln_sR, ln_sA, ln_sQ, ln_sL, ln_sD, gI_sR, gI_sA, gI_sQ, gI_sL, gI_sD, gR_sI, gR_sA, gR_sQ, gR_sL, gR_sD, gA_sI, gA_sR, gA_sQ, gA_sL, gA_sD, gQ_sI, gQ_sR, gQ_sA, gQ_sL, gQ_sD, gL_sI, gL_sR, gL_sA, gL_sQ, gL_sD]; assumption) | simp [kd_sI, kd_sR, kd_sA, kd_sQ, kd_sL, kd_sD, ln_sI, ln_sR, ln_sA, ln_sQ, ln_sL, ln_sD, gI_sR, gI_sA, gI_sQ, gI_sL, gI_sD, gR_sI, gR_sA, gR_sQ, gR_sL, gR_sD, gA_sI, gA_sR, gA_sQ, gA_sL, gA_sD, gQ_sI, gQ_sR, gQ_sA, gQ_sL, gQ_sD, gL_sI, gL_sR, gL_sA, gL_sQ, gL_sD, kd_nO, kd_nA, *]) (by first | assumption | exact gI_sIs | exact gR_sRs | with_reducible rfl | (simp only [kd_sI, kd_sR, kd_sA, kd_sQ, kd_sL, kd_sD, ln_sI, ln_sR, ln_sA, ln_sQ, ln_sL, ln_sD, gI_sR, gI_sA, gI_sQ, gI_sL, gI_sD, gR_sI, gR_sA, gR_sQ, gR_sL, gR_sD, gA_sI, gA_sR, gA_sQ, gA_sL, gA_sD, gQ_sI, gQ_sR, gQ_sA, gQ_sL, gQ_sD, gL_sI, gL_sR, gL_sA, gL_sQ, gL_sD]; first | done | assumption | with_reducible rfl) | rfl) ?_
        refine r_ireturn dX3_errorPosition_31 rfl (by first | rfl | assumption | exact vp_nar_int _ | exact pk_nc _) ?_
        exact hQ
      · exact absurd (by decide) h20
    · exact absurd (nI_pos' (by omega)) h5
theorem s_refusedItem {w : Option Nat} (hM : MO H m ma) (hW : gI H 92 m = oI w) (hw : ∀ p, w = some p → p < 65536) (hQ : Qr (some (vI (p_pos w).2)) (sI H 77 m (nI (p_pos w).1))) : AMet G d 0 0 yX3_refusedItem wX3_refusedItem H [vR (some m)] Qr Qx := by
  have e0 := hM.1
  refine AMet.of (M := mX3_refusedItem) (maxL := 1) rfl rfl (Nat.le_of_ble_eq_true rfl) ?_
  show AW mX3_refusedItem _ _ _ _ _ _ _ 0 [some (vR (some m))] []
  cases w with
  | none =>
    refine r_aload_n (i := 0) dX3_refusedItem_0 rfl rfl ?_
    refine r_aload_n (i := 0) dX3_refusedItem_1 rfl rfl ?_
    refine r_getI dX3_refusedItem_2 fR_X3_57 (by first | assumption | (simp only [kd_sI, kd_sR, kd_sA, kd_sQ, kd_sL, kd_sD, ln_sI, ln_sR, ln_sA, ln_sQ, ln_sL, ln_sD, gI_sR, gI_sA, gI_sQ, gI_sL, gI_sD, gR_sI, gR_sA, gR_sQ, gR_sL, gR_sD, gA_sI, gA_sR, gA_sQ, gA_sL, gA_sD, gQ_sI, gQ_sR, gQ_sA, gQ_sL, gQ_sD, gL_sI, gL_sR, gL_sA, gL_sQ, gL_sD]; assumption) | simp [kd_sI, kd_sR, kd_sA, kd_sQ, kd_sL, kd_sD, ln_sI, ln_sR, ln_sA, ln_sQ, ln_sL, ln_sD, gI_sR, gI_sA, gI_sQ, gI_sL, gI_sD, gR_sI, gR_sA, gR_sQ, gR_sL, gR_sD, gA_sI, gA_sR, gA_sQ, gA_sL, gA_sD, gQ_sI, gQ_sR, gQ_sA, gQ_sL, gQ_sD, gL_sI, gL_sR, gL_sA, gL_sQ, gL_sD, kd_nO, kd_nA, *]) (by first | assumption | exact gI_sIs | exact gR_sRs | with_reducible rfl | (simp only [kd_sI, kd_sR, kd_sA, kd_sQ, kd_sL, kd_sD, ln_sI, ln_sR, ln_sA, ln_sQ, ln_sL, ln_sD, gI_sR, gI_sA, gI_sQ, gI_sL, gI_sD, gR_sI, gR_sA, gR_sQ, gR_sL, gR_sD, gA_sI, gA_sR, gA_sQ, gA_sL, gA_sD, gQ_sI, gQ_sR, gQ_sA, gQ_sL, gQ_sD, gL_sI, gL_sR, gL_sA, gL_sQ, gL_sD]; first | done | assumption | with_reducible rfl) | rfl) ?_
    refine r_if_ge (tgt := 12) dX3_refusedItem_5 (by decide) (fun h5 => ?_) (fun h5 => ?_)
    · exact absurd h5 (by show ¬ (0 : Int32) ≤ -1; decide)
    · refine r_iconst (v := nI 1) dX3_refusedItem_8 (by decide) ?_
      refine r_goto (tgt := 13) dX3_refusedItem_9 (by decide) ?_
      refine r_putI dX3_refusedItem_13 fG_X3_66 (fun _ => by first | rfl | contradiction) (by first | assumption | (simp only [kd_sI, kd_sR, kd_sA, kd_sQ, kd_sL, kd_sD, ln_sI, ln_sR, ln_sA, ln_sQ, ln_sL, ln_sD, gI_sR, gI_sA, gI_sQ, gI_sL, gI_sD, gR_sI, gR_sA, gR_sQ, gR_sL, gR_sD, gA_sI, gA_sR, gA_sQ, gA_sL, gA_sD, gQ_sI, gQ_sR, gQ_sA, gQ_sL, gQ_sD, gL_sI, gL_sR, gL_sA, gL_sQ, gL_sD]; assumption) | simp [kd_sI, kd_sR, kd_sA, kd_sQ, kd_sL, kd_sD, ln_sI, ln_sR, ln_sA, ln_sQ, ln_sL, ln_sD, gI_sR, gI_sA, gI_sQ, gI_sL, gI_sD, gR_sI, gR_sA, gR_sQ, gR_sL, gR_sD, gA_sI, gA_sR, gA_sQ, gA_sL, gA_sD, gQ_sI, gQ_sR, gQ_sA, gQ_sL, gQ_sD, gL_sI, gL_sR, gL_sA, gL_sQ, gL_sD, kd_nO, kd_nA, *]) (by first | rfl | assumption) (by first | rfl | assumption) ?_
      refine r_aload_n (i := 0) dX3_refusedItem_16 rfl rfl ?_
      refine r_getI dX3_refusedItem_17 fR_X3_66 (by first | assumption | (simp only [kd_sI, kd_sR, kd_sA, kd_sQ, kd_sL, kd_sD, ln_sI, ln_sR, ln_sA, ln_sQ, ln_sL, ln_sD, gI_sR, gI_sA, gI_sQ, gI_sL, gI_sD, gR_sI, gR_sA, gR_sQ, gR_sL, gR_sD, gA_sI, gA_sR, gA_sQ, gA_sL, gA_sD, gQ_sI, gQ_sR, gQ_sA, gQ_sL, gQ_sD, gL_sI, gL_sR, gL_sA, gL_sQ, gL_sD]; assumption) | simp [kd_sI, kd_sR, kd_sA, kd_sQ, kd_sL, kd_sD, ln_sI, ln_sR, ln_sA, ln_sQ, ln_sL, ln_sD, gI_sR, gI_sA, gI_sQ, gI_sL, gI_sD, gR_sI, gR_sA, gR_sQ, gR_sL, gR_sD, gA_sI, gA_sR, gA_sQ, gA_sL, gA_sD, gQ_sI, gQ_sR, gQ_sA, gQ_sL, gQ_sD, gL_sI, gL_sR, gL_sA, gL_sQ, gL_sD, kd_nO, kd_nA, *]) (by first | assumption | exact gI_sIs | exact gR_sRs | with_reducible rfl | (simp only [kd_sI, kd_sR, kd_sA, kd_sQ, kd_sL, kd_sD, ln_sI, ln_sR, ln_sA, ln_sQ, ln_sL, ln_sD, gI_sR, gI_sA, gI_sQ, gI_sL, gI_sD, gR_sI, gR_sA, gR_sQ, gR_sL, gR_sD, gA_sI, gA_sR, gA_sQ, gA_sL, gA_sD, gQ_sI, gQ_sR, gQ_sA, gQ_sL, gQ_sD, gL_sI, gL_sR, gL_sA, gL_sQ, gL_sD]; first | done | assumption | with_reducible rfl) | rfl) ?_
      refine r_if_le (tgt := 27) dX3_refusedItem_20 (by decide) (fun h20 => ?_) (fun h20 => ?_)
      · exact absurd h20 (by decide)
      · refine r_iconst (v := nI 0) dX3_refusedItem_23 (by decide) ?_
        refine r_goto (tgt := 31) dX3_refusedItem_24 (by decide) ?_
        refine r_ireturn dX3_refusedItem_31 rfl (by first | rfl | assumption | exact vp_nar_int _ | exact pk_nc _) ?_
        exact hQ
  | some p =>
    have := hw p rfl
    refine r_aload_n (i := 0) dX3_refusedItem_0 rfl rfl ?_
    refine r_aload_n (i := 0) dX3_refusedItem_1 rfl rfl ?_
    refine r_getI dX3_refusedItem_2 fR_X3_57 (by first | assumption | (simp only [kd_sI, kd_sR, kd_sA, kd_sQ, kd_sL, kd_sD, ln_sI, ln_sR, ln_sA, ln_sQ, ln_sL, ln_sD, gI_sR, gI_sA, gI_sQ, gI_sL, gI_sD, gR_sI, gR_sA, gR_sQ, gR_sL, gR_sD, gA_sI, gA_sR, gA_sQ, gA_sL, gA_sD, gQ_sI, gQ_sR, gQ_sA, gQ_sL, gQ_sD, gL_sI, gL_sR, gL_sA, gL_sQ, gL_sD]; assumption) | simp [kd_sI, kd_sR, kd_sA, kd_sQ, kd_sL, kd_sD, ln_sI, ln_sR, ln_sA, ln_sQ, ln_sL, ln_sD, gI_sR, gI_sA, gI_sQ, gI_sL, gI_sD, gR_sI, gR_sA, gR_sQ, gR_sL, gR_sD, gA_sI, gA_sR, gA_sQ, gA_sL, gA_sD, gQ_sI, gQ_sR, gQ_sA, gQ_sL, gQ_sD, gL_sI, gL_sR, gL_sA, gL_sQ, gL_sD, kd_nO, kd_nA, *]) (by first | assumption | exact gI_sIs | exact gR_sRs | with_reducible rfl | (simp only [kd_sI, kd_sR, kd_sA, kd_sQ, kd_sL, kd_sD, ln_sI, ln_sR, ln_sA, ln_sQ, ln_sL, ln_sD, gI_sR, gI_sA, gI_sQ, gI_sL, gI_sD, gR_sI, gR_sA, gR_sQ, gR_sL, gR_sD, gA_sI, gA_sR, gA_sQ, gA_sL, gA_sD, gQ_sI, gQ_sR, gQ_sA, gQ_sL, gQ_sD, gL_sI, gL_sR, gL_sA, gL_sQ, gL_sD]; first | done | assumption | with_reducible rfl) | rfl) ?_
    refine r_if_ge (tgt := 12) dX3_refusedItem_5 (by decide) (fun h5 => ?_) (fun h5 => ?_)
    · have hW2 : gI (sI H 77 m (nI 0)) 92 m = nI p := by rw [gI_sI, if_neg (by omega)]; exact hW
      refine r_iconst (v := nI 0) dX3_refusedItem_12 (by decide) ?_
      refine r_putI dX3_refusedItem_13 fG_X3_66 (fun _ => by first | rfl | contradiction) (by first | assumption | (simp only [kd_sI, kd_sR, kd_sA, kd_sQ, kd_sL, kd_sD, ln_sI, ln_sR, ln_sA, ln_sQ, ln_sL, ln_sD, gI_sR, gI_sA, gI_sQ, gI_sL, gI_sD, gR_sI, gR_sA, gR_sQ, gR_sL, gR_sD, gA_sI, gA_sR, gA_sQ, gA_sL, gA_sD, gQ_sI, gQ_sR, gQ_sA, gQ_sL, gQ_sD, gL_sI, gL_sR, gL_sA, gL_sQ, gL_sD]; assumption) | simp [kd_sI, kd_sR, kd_sA, kd_sQ, kd_sL, kd_sD, ln_sI, ln_sR, ln_sA, ln_sQ, ln_sL, ln_sD, gI_sR, gI_sA, gI_sQ, gI_sL, gI_sD, gR_sI, gR_sA, gR_sQ, gR_sL, gR_sD, gA_sI, gA_sR, gA_sQ, gA_sL, gA_sD, gQ_sI, gQ_sR, gQ_sA, gQ_sL, gQ_sD, gL_sI, gL_sR, gL_sA, gL_sQ, gL_sD, kd_nO, kd_nA, *]) (by first | rfl | assumption) (by first | rfl | assumption) ?_
      refine r_aload_n (i := 0) dX3_refusedItem_16 rfl rfl ?_
      refine r_getI dX3_refusedItem_17 fR_X3_66 (by first | assumption | (simp only [kd_sI, kd_sR, kd_sA, kd_sQ, kd_sL, kd_sD, ln_sI, ln_sR, ln_sA, ln_sQ, ln_sL, ln_sD, gI_sR, gI_sA, gI_sQ, gI_sL, gI_sD, gR_sI, gR_sA, gR_sQ, gR_sL, gR_sD, gA_sI, gA_sR, gA_sQ, gA_sL, gA_sD, gQ_sI, gQ_sR, gQ_sA, gQ_sL, gQ_sD, gL_sI, gL_sR, gL_sA, gL_sQ, gL_sD]; assumption) | simp [kd_sI, kd_sR, kd_sA, kd_sQ, kd_sL, kd_sD, ln_sI, ln_sR, ln_sA, ln_sQ, ln_sL, ln_sD, gI_sR, gI_sA, gI_sQ, gI_sL, gI_sD, gR_sI, gR_sA, gR_sQ, gR_sL, gR_sD, gA_sI, gA_sR, gA_sQ, gA_sL, gA_sD, gQ_sI, gQ_sR, gQ_sA, gQ_sL, gQ_sD, gL_sI, gL_sR, gL_sA, gL_sQ, gL_sD, kd_nO, kd_nA, *]) (by first | assumption | exact gI_sIs | exact gR_sRs | with_reducible rfl | (simp only [kd_sI, kd_sR, kd_sA, kd_sQ, kd_sL, kd_sD, ln_sI, ln_sR, ln_sA, ln_sQ, ln_sL, ln_sD, gI_sR, gI_sA, gI_sQ, gI_sL, gI_sD, gR_sI, gR_sA, gR_sQ, gR_sL, gR_sD, gA_sI, gA_sR, gA_sQ, gA_sL, gA_sD, gQ_sI, gQ_sR, gQ_sA, gQ_sL, gQ_sD, gL_sI, gL_sR, gL_sA, gL_sQ, gL_sD]; first | done | assumption | with_reducible rfl) | rfl) ?_
      refine r_if_le (tgt := 27) dX3_refusedItem_20 (by decide) (fun h20 => ?_) (fun h20 => ?_)
      · refine r_aload_n (i := 0) dX3_refusedItem_27 rfl rfl ?_
        refine r_getI dX3_refusedItem_28 fR_X3_57 (by first | assumption | (simp only [kd_sI, kd_sR, kd_sA, kd_sQ, kd_sL, kd_sD, ln_sI, ln_sR, ln_sA, ln_sQ, ln_sL, ln_sD, gI_sR, gI_sA, gI_sQ, gI_sL, gI_sD, gR_sI, gR_sA, gR_sQ, gR_sL, gR_sD, gA_sI, gA_sR, gA_sQ, gA_sL, gA_sD, gQ_sI, gQ_sR, gQ_sA, gQ_sL, gQ_sD, gL_sI, gL_sR, gL_sA, gL_sQ, gL_sD]; assumption) | simp [kd_sI, kd_sR, kd_sA, kd_sQ, kd_sL, kd_sD, ln_sI, ln_sR, ln_sA, ln_sQ, ln_sL, ln_sD, gI_sR, gI_sA, gI_sQ, gI_sL, gI_sD, gR_sI, gR_sA, gR_sQ, gR_sL, gR_sD, gA_sI, gA_sR, gA_sQ, gA_sL, gA_sD, gQ_sI, gQ_sR, gQ_sA, gQ_sL, gQ_sD, gL_sI, gL_sR, gL_sA, gL_sQ, gL_sD, kd_nO, kd_nA, *]) (by first | assumption | exact gI_sIs | exact gR_sRs | with_reducible rfl | (simp only [kd_sI, kd_sR, kd_sA, kd_sQ, kd_sL, kd_sD, ln_sI, ln_sR, ln_sA, ln_sQ, ln_sL, ln_sD, gI_sR, gI_sA, gI_sQ, gI_sL, gI_sD, gR_sI, gR_sA, gR_sQ, gR_sL, gR_sD, gA_sI, gA_sR, gA_sQ, gA_sL, gA_sD, gQ_sI, gQ_sR, gQ_sA, gQ_sL, gQ_sD, gL_sI, gL_sR, gL_sA, gL_sQ, gL_sD]; first | done | assumption | with_reducible rfl) | rfl) ?_
        refine r_ireturn dX3_refusedItem_31 rfl (by first | rfl | assumption | exact vp_nar_int _ | exact pk_nc _) ?_
        exact hQ
      · exact absurd (by decide) h20
    · exact absurd (nI_pos' (by omega)) h5
theorem s_read {J : (Nat → Int32) → Prop} {g : Nat → Int32} {B : List Nat} {L : List (Nat → Int32)} {w r : Option Nat} (hd : 5 ≤ d) (hM : MO H m ma) (hR : BufR H m ma B) (hP : PastR H m ma L) (hg : gA H 1068 (ma 68) = g) (hx : gI H 72 m = bI false) (hW : gI H 91 m = oI w) (hRe : gI H 92 m = oI r) (hJ : J g) (hJ1 : ∀ g, J g → GB g ∧ ZT g) (hJ2 : ∀ g it g', J g → okI it → carryF g it = some g' → J g')
    (hQ : ∀ H', MU m ma rF H H' → gI H' 77 m = nI (u_read g L B w r).1.1 → gA H' 1068 (ma 68) = (u_read g L B w r).1.2.2.1 → PastR H' m ma (u_read g L B w r).1.2.2.2 → BufR H' m ma [] → gI H' 72 m = bI false → gI H' 91 m = oI (u_read g L B w r).2.1 → gI H' 92 m = oI (u_read g L B w r).2.2 → Qr (some (vI (u_read g L B w r).1.2.1)) H') : AMet G d 0 0 yX3_read wX3_read H [vR (some m)] Qr Qx := by
  have e0 := hM.1
  unfold u_read at hQ
  refine AMet.of (M := mX3_read) (maxL := 3) rfl rfl (Nat.le_of_ble_eq_true rfl) ?_
  show AW mX3_read _ _ _ _ _ _ _ 0 [some (vR (some m)), none, none] []
  refine r_aload_n (i := 0) dX3_read_0 rfl rfl ?_
  refine r_callV (As := []) (mc' := 0) (ms' := 0) dX3_read_1 k_X3_264 rfl (by first | assumption | (simp only [kd_sI, kd_sR, kd_sA, kd_sQ, kd_sL, kd_sD, ln_sI, ln_sR, ln_sA, ln_sQ, ln_sL, ln_sD, gI_sR, gI_sA, gI_sQ, gI_sL, gI_sD, gR_sI, gR_sA, gR_sQ, gR_sL, gR_sD, gA_sI, gA_sR, gA_sQ, gA_sL, gA_sD, gQ_sI, gQ_sR, gQ_sA, gQ_sL, gQ_sD, gL_sI, gL_sR, gL_sA, gL_sQ, gL_sD]; assumption) | simp [kd_sI, kd_sR, kd_sA, kd_sQ, kd_sL, kd_sD, ln_sI, ln_sR, ln_sA, ln_sQ, ln_sL, ln_sD, gI_sR, gI_sA, gI_sQ, gI_sL, gI_sD, gR_sI, gR_sA, gR_sQ, gR_sL, gR_sD, gA_sI, gA_sR, gA_sQ, gA_sL, gA_sD, gQ_sI, gQ_sR, gQ_sA, gQ_sL, gQ_sD, gL_sI, gL_sR, gL_sA, gL_sQ, gL_sD, kd_nO, kd_nA, *]) (T := TX3) (N := 27) rfl (by first | assumption | omega) (by first | assumption | omega) (by first | assumption | omega) (Nat.le_of_ble_eq_true rfl) ?_
  refine s_isText (by omega) hM hR ?_
  intro H1 hU1 hS1 hT1
  have hM1 := hM.mf hU1.1
  have e01 := hM1.1
  have hg1 : gA H1 1068 (ma 68) = g := by rw [← hg]; exact congrFun (hU1.g68 (by decide)) _
  have hP1 := hP.mu hU1 (by decide) (by decide)
  have hx1 : gI H1 72 m = bI false := by rw [(hU1.2 72 (by decide)).1]; exact hx
  have hW1 : gI H1 91 m = oI w := by rw [(hU1.2 91 (by decide)).1]; exact hW
  have hRe1 : gI H1 92 m = oI r := by rw [(hU1.2 92 (by decide)).1]; exact hRe
  show AW mX3_read G d Qr Qx _ _ H1 4 _ _
  rcases hp : pText B with ⟨o, q⟩
  rw [hp] at hQ hS1 hT1
  have empty : ∀ H2, gI H2 89 m = nI 0 → BufR H2 m ma [] := fun H2 h => ⟨h, by decide, fun k hk => absurd hk (by simp), fun b hb => by cases hb⟩
  cases o with
  | none =>
    dsimp only at hQ
    refine r_istore_n (i := 1) dX3_read_4 rfl (Nat.le_of_ble_eq_true rfl) (by simp only [lset]; rfl) ?_
    refine r_aload_n (i := 0) dX3_read_5 rfl rfl ?_
    refine r_iconst (v := nI 0) dX3_read_6 (by decide) ?_
    refine r_putI dX3_read_7 fG_X3_66 (fun _ => by first | rfl | contradiction) (by first | assumption | (simp only [kd_sI, kd_sR, kd_sA, kd_sQ, kd_sL, kd_sD, ln_sI, ln_sR, ln_sA, ln_sQ, ln_sL, ln_sD, gI_sR, gI_sA, gI_sQ, gI_sL, gI_sD, gR_sI, gR_sA, gR_sQ, gR_sL, gR_sD, gA_sI, gA_sR, gA_sQ, gA_sL, gA_sD, gQ_sI, gQ_sR, gQ_sA, gQ_sL, gQ_sD, gL_sI, gL_sR, gL_sA, gL_sQ, gL_sD]; assumption) | simp [kd_sI, kd_sR, kd_sA, kd_sQ, kd_sL, kd_sD, ln_sI, ln_sR, ln_sA, ln_sQ, ln_sL, ln_sD, gI_sR, gI_sA, gI_sQ, gI_sL, gI_sD, gR_sI, gR_sA, gR_sQ, gR_sL, gR_sD, gA_sI, gA_sR, gA_sQ, gA_sL, gA_sD, gQ_sI, gQ_sR, gQ_sA, gQ_sL, gQ_sD, gL_sI, gL_sR, gL_sA, gL_sQ, gL_sD, kd_nO, kd_nA, *]) (by first | rfl | assumption) (by first | rfl | assumption) ?_
    refine r_aload_n (i := 0) dX3_read_10 rfl rfl ?_
    refine r_iload_n (i := 1) dX3_read_11 rfl rfl ?_
    refine r_if_eq (tgt := 22) dX3_read_12 (by decide) (fun h12 => ?_) (fun h12 => ?_)
    · refine r_aload_n (i := 0) dX3_read_22 rfl rfl ?_
      refine r_getI dX3_read_23 fR_X3_221 (by first | assumption | (simp only [kd_sI, kd_sR, kd_sA, kd_sQ, kd_sL, kd_sD, ln_sI, ln_sR, ln_sA, ln_sQ, ln_sL, ln_sD, gI_sR, gI_sA, gI_sQ, gI_sL, gI_sD, gR_sI, gR_sA, gR_sQ, gR_sL, gR_sD, gA_sI, gA_sR, gA_sQ, gA_sL, gA_sD, gQ_sI, gQ_sR, gQ_sA, gQ_sL, gQ_sD, gL_sI, gL_sR, gL_sA, gL_sQ, gL_sD]; assumption) | simp [kd_sI, kd_sR, kd_sA, kd_sQ, kd_sL, kd_sD, ln_sI, ln_sR, ln_sA, ln_sQ, ln_sL, ln_sD, gI_sR, gI_sA, gI_sQ, gI_sL, gI_sD, gR_sI, gR_sA, gR_sQ, gR_sL, gR_sD, gA_sI, gA_sR, gA_sQ, gA_sL, gA_sD, gQ_sI, gQ_sR, gQ_sA, gQ_sL, gQ_sD, gL_sI, gL_sR, gL_sA, gL_sQ, gL_sD, kd_nO, kd_nA, *]) (by first | assumption | exact gI_sIs | exact gR_sRs | with_reducible rfl | (simp only [kd_sI, kd_sR, kd_sA, kd_sQ, kd_sL, kd_sD, ln_sI, ln_sR, ln_sA, ln_sQ, ln_sL, ln_sD, gI_sR, gI_sA, gI_sQ, gI_sL, gI_sD, gR_sI, gR_sA, gR_sQ, gR_sL, gR_sD, gA_sI, gA_sR, gA_sQ, gA_sL, gA_sD, gQ_sI, gQ_sR, gQ_sA, gQ_sL, gQ_sD, gL_sI, gL_sR, gL_sA, gL_sQ, gL_sD]; first | done | assumption | with_reducible rfl) | rfl) ?_
      refine r_putI dX3_read_26 fG_X3_53 (fun _ => by first | rfl | contradiction) (by first | assumption | (simp only [kd_sI, kd_sR, kd_sA, kd_sQ, kd_sL, kd_sD, ln_sI, ln_sR, ln_sA, ln_sQ, ln_sL, ln_sD, gI_sR, gI_sA, gI_sQ, gI_sL, gI_sD, gR_sI, gR_sA, gR_sQ, gR_sL, gR_sD, gA_sI, gA_sR, gA_sQ, gA_sL, gA_sD, gQ_sI, gQ_sR, gQ_sA, gQ_sL, gQ_sD, gL_sI, gL_sR, gL_sA, gL_sQ, gL_sD]; assumption) | simp [kd_sI, kd_sR, kd_sA, kd_sQ, kd_sL, kd_sD, ln_sI, ln_sR, ln_sA, ln_sQ, ln_sL, ln_sD, gI_sR, gI_sA, gI_sQ, gI_sL, gI_sD, gR_sI, gR_sA, gR_sQ, gR_sL, gR_sD, gA_sI, gA_sR, gA_sQ, gA_sL, gA_sD, gQ_sI, gQ_sR, gQ_sA, gQ_sL, gQ_sD, gL_sI, gL_sR, gL_sA, gL_sQ, gL_sD, kd_nO, kd_nA, *]) (by first | rfl | assumption) (by first | rfl | assumption) ?_
      refine r_aload_n (i := 0) dX3_read_29 rfl rfl ?_
      refine r_iconst (v := nI 0) dX3_read_30 (by decide) ?_
      refine r_putI dX3_read_31 fG_X3_209 (fun _ => by first | rfl | contradiction) (by first | assumption | (simp only [kd_sI, kd_sR, kd_sA, kd_sQ, kd_sL, kd_sD, ln_sI, ln_sR, ln_sA, ln_sQ, ln_sL, ln_sD, gI_sR, gI_sA, gI_sQ, gI_sL, gI_sD, gR_sI, gR_sA, gR_sQ, gR_sL, gR_sD, gA_sI, gA_sR, gA_sQ, gA_sL, gA_sD, gQ_sI, gQ_sR, gQ_sA, gQ_sL, gQ_sD, gL_sI, gL_sR, gL_sA, gL_sQ, gL_sD]; assumption) | simp [kd_sI, kd_sR, kd_sA, kd_sQ, kd_sL, kd_sD, ln_sI, ln_sR, ln_sA, ln_sQ, ln_sL, ln_sD, gI_sR, gI_sA, gI_sQ, gI_sL, gI_sD, gR_sI, gR_sA, gR_sQ, gR_sL, gR_sD, gA_sI, gA_sR, gA_sQ, gA_sL, gA_sD, gQ_sI, gQ_sR, gQ_sA, gQ_sL, gQ_sD, gL_sI, gL_sR, gL_sA, gL_sQ, gL_sD, kd_nO, kd_nA, *]) (by first | rfl | assumption) (by first | rfl | assumption) ?_
      refine AW.name (fun H2 hH2 => ?_)
      have hU2 : MU m ma [77, 91, 89] H1 H2 := by rw [hH2]; exact ((MU.rf.sI (by decide) (by decide) (by decide)).sI (by decide) (by decide) (by decide)).sI (by decide) (by decide) (by decide)
      have hM2 := hM1.mf hU2.1
      have e02 := hM2.1
      have z91 : gI H2 91 m = nI q := by
        rw [hH2, gI_sI, if_neg (by omega), gI_sIs]
        try exact hS1
      have z89 : gI H2 89 m = nI 0 := by rw [hH2]; exact gI_sIs
      refine r_iload_n (i := 1) dX3_read_34 rfl rfl ?_
      refine r_if_ne (tgt := 44) dX3_read_35 (by decide) (fun h35 => ?_) (fun h35 => ?_)
      · exact absurd rfl h35
      · refine r_aload_n (i := 0) dX3_read_38 rfl rfl ?_
        refine r_iconst (v := nI 1) dX3_read_39 (by decide) ?_
        refine r_callV (As := [_]) (mc' := 0) (ms' := 0) dX3_read_40 k_X3_175 rfl (by first | assumption | (simp only [kd_sI, kd_sR, kd_sA, kd_sQ, kd_sL, kd_sD, ln_sI, ln_sR, ln_sA, ln_sQ, ln_sL, ln_sD, gI_sR, gI_sA, gI_sQ, gI_sL, gI_sD, gR_sI, gR_sA, gR_sQ, gR_sL, gR_sD, gA_sI, gA_sR, gA_sQ, gA_sL, gA_sD, gQ_sI, gQ_sR, gQ_sA, gQ_sL, gQ_sD, gL_sI, gL_sR, gL_sA, gL_sQ, gL_sD]; assumption) | simp [kd_sI, kd_sR, kd_sA, kd_sQ, kd_sL, kd_sD, ln_sI, ln_sR, ln_sA, ln_sQ, ln_sL, ln_sD, gI_sR, gI_sA, gI_sQ, gI_sL, gI_sD, gR_sI, gR_sA, gR_sQ, gR_sL, gR_sD, gA_sI, gA_sR, gA_sQ, gA_sL, gA_sD, gQ_sI, gQ_sR, gQ_sA, gQ_sL, gQ_sD, gL_sI, gL_sR, gL_sA, gL_sQ, gL_sD, kd_nO, kd_nA, *]) (T := TX3) (N := 27) rfl (by first | assumption | omega) (by first | assumption | omega) (by first | assumption | omega) (Nat.le_of_ble_eq_true rfl) ?_
        refine s_fails hM2 ?_
        refine r_ireturn dX3_read_43 rfl (by first | rfl | assumption | exact vp_nar_int _ | exact pk_nc _) ?_
        have hU3 : MU m ma [77] H2 (sI H2 77 m (nI 1)) := MU.rf.sI (by decide) (by decide) (by decide)
        have hU13 : MU m ma rF H (sI H2 77 m (nI 1)) := ((hU1.tr hU2).tr hU3).sub (by decide)
        exact hQ _ hU13 gI_sIs (by rw [show gA (sI H2 77 m (nI 1)) 1068 = gA H2 1068 from rfl, ← hg1]; exact congrFun (hU2.g68 (by decide)) _) ((hP1.mu hU2 (by decide) (by decide)).mu hU3 (by decide) (by decide)) (empty _ (by rw [gI_sI, if_neg (by omega)]; exact z89)) (by rw [((hU2.tr hU3).2 72 (by decide)).1]; exact hx1) (by rw [gI_sI, if_neg (by omega)]; exact z91) (by rw [((hU2.tr hU3).2 92 (by decide)).1]; exact hRe1)
    · exact absurd rfl h12
  | some its =>
    dsimp only at hQ
    obtain ⟨t94, t31, tne, tok, tT⟩ := hT1 its rfl
    refine r_istore_n (i := 1) dX3_read_4 rfl (Nat.le_of_ble_eq_true rfl) (by simp only [lset]; rfl) ?_
    refine r_aload_n (i := 0) dX3_read_5 rfl rfl ?_
    refine r_iconst (v := nI 0) dX3_read_6 (by decide) ?_
    refine r_putI dX3_read_7 fG_X3_66 (fun _ => by first | rfl | contradiction) (by first | assumption | (simp only [kd_sI, kd_sR, kd_sA, kd_sQ, kd_sL, kd_sD, ln_sI, ln_sR, ln_sA, ln_sQ, ln_sL, ln_sD, gI_sR, gI_sA, gI_sQ, gI_sL, gI_sD, gR_sI, gR_sA, gR_sQ, gR_sL, gR_sD, gA_sI, gA_sR, gA_sQ, gA_sL, gA_sD, gQ_sI, gQ_sR, gQ_sA, gQ_sL, gQ_sD, gL_sI, gL_sR, gL_sA, gL_sQ, gL_sD]; assumption) | simp [kd_sI, kd_sR, kd_sA, kd_sQ, kd_sL, kd_sD, ln_sI, ln_sR, ln_sA, ln_sQ, ln_sL, ln_sD, gI_sR, gI_sA, gI_sQ, gI_sL, gI_sD, gR_sI, gR_sA, gR_sQ, gR_sL, gR_sD, gA_sI, gA_sR, gA_sQ, gA_sL, gA_sD, gQ_sI, gQ_sR, gQ_sA, gQ_sL, gQ_sD, gL_sI, gL_sR, gL_sA, gL_sQ, gL_sD, kd_nO, kd_nA, *]) (by first | rfl | assumption) (by first | rfl | assumption) ?_
    refine r_aload_n (i := 0) dX3_read_10 rfl rfl ?_
    refine r_iload_n (i := 1) dX3_read_11 rfl rfl ?_
    refine r_if_eq (tgt := 22) dX3_read_12 (by decide) (fun h12 => ?_) (fun h12 => ?_)
    · exact absurd h12 (by show ¬ nI 1 = 0; decide)
    · refine r_aload_n (i := 0) dX3_read_15 rfl rfl ?_
      refine r_getI dX3_read_16 fR_X3_53 (by first | assumption | (simp only [kd_sI, kd_sR, kd_sA, kd_sQ, kd_sL, kd_sD, ln_sI, ln_sR, ln_sA, ln_sQ, ln_sL, ln_sD, gI_sR, gI_sA, gI_sQ, gI_sL, gI_sD, gR_sI, gR_sA, gR_sQ, gR_sL, gR_sD, gA_sI, gA_sR, gA_sQ, gA_sL, gA_sD, gQ_sI, gQ_sR, gQ_sA, gQ_sL, gQ_sD, gL_sI, gL_sR, gL_sA, gL_sQ, gL_sD]; assumption) | simp [kd_sI, kd_sR, kd_sA, kd_sQ, kd_sL, kd_sD, ln_sI, ln_sR, ln_sA, ln_sQ, ln_sL, ln_sD, gI_sR, gI_sA, gI_sQ, gI_sL, gI_sD, gR_sI, gR_sA, gR_sQ, gR_sL, gR_sD, gA_sI, gA_sR, gA_sQ, gA_sL, gA_sD, gQ_sI, gQ_sR, gQ_sA, gQ_sL, gQ_sD, gL_sI, gL_sR, gL_sA, gL_sQ, gL_sD, kd_nO, kd_nA, *]) (by first | assumption | exact gI_sIs | exact gR_sRs | with_reducible rfl | (simp only [kd_sI, kd_sR, kd_sA, kd_sQ, kd_sL, kd_sD, ln_sI, ln_sR, ln_sA, ln_sQ, ln_sL, ln_sD, gI_sR, gI_sA, gI_sQ, gI_sL, gI_sD, gR_sI, gR_sA, gR_sQ, gR_sL, gR_sD, gA_sI, gA_sR, gA_sQ, gA_sL, gA_sD, gQ_sI, gQ_sR, gQ_sA, gQ_sL, gQ_sD, gL_sI, gL_sR, gL_sA, gL_sQ, gL_sD]; first | done | assumption | with_reducible rfl) | rfl) ?_
      refine r_goto (tgt := 26) dX3_read_19 (by decide) ?_
      refine r_putI dX3_read_26 fG_X3_53 (fun _ => by first | rfl | contradiction) (by first | assumption | (simp only [kd_sI, kd_sR, kd_sA, kd_sQ, kd_sL, kd_sD, ln_sI, ln_sR, ln_sA, ln_sQ, ln_sL, ln_sD, gI_sR, gI_sA, gI_sQ, gI_sL, gI_sD, gR_sI, gR_sA, gR_sQ, gR_sL, gR_sD, gA_sI, gA_sR, gA_sQ, gA_sL, gA_sD, gQ_sI, gQ_sR, gQ_sA, gQ_sL, gQ_sD, gL_sI, gL_sR, gL_sA, gL_sQ, gL_sD]; assumption) | simp [kd_sI, kd_sR, kd_sA, kd_sQ, kd_sL, kd_sD, ln_sI, ln_sR, ln_sA, ln_sQ, ln_sL, ln_sD, gI_sR, gI_sA, gI_sQ, gI_sL, gI_sD, gR_sI, gR_sA, gR_sQ, gR_sL, gR_sD, gA_sI, gA_sR, gA_sQ, gA_sL, gA_sD, gQ_sI, gQ_sR, gQ_sA, gQ_sL, gQ_sD, gL_sI, gL_sR, gL_sA, gL_sQ, gL_sD, kd_nO, kd_nA, *]) (by first | rfl | assumption) (by first | rfl | assumption) ?_
      refine r_aload_n (i := 0) dX3_read_29 rfl rfl ?_
      refine r_iconst (v := nI 0) dX3_read_30 (by decide) ?_
      refine r_putI dX3_read_31 fG_X3_209 (fun _ => by first | rfl | contradiction) (by first | assumption | (simp only [kd_sI, kd_sR, kd_sA, kd_sQ, kd_sL, kd_sD, ln_sI, ln_sR, ln_sA, ln_sQ, ln_sL, ln_sD, gI_sR, gI_sA, gI_sQ, gI_sL, gI_sD, gR_sI, gR_sA, gR_sQ, gR_sL, gR_sD, gA_sI, gA_sR, gA_sQ, gA_sL, gA_sD, gQ_sI, gQ_sR, gQ_sA, gQ_sL, gQ_sD, gL_sI, gL_sR, gL_sA, gL_sQ, gL_sD]; assumption) | simp [kd_sI, kd_sR, kd_sA, kd_sQ, kd_sL, kd_sD, ln_sI, ln_sR, ln_sA, ln_sQ, ln_sL, ln_sD, gI_sR, gI_sA, gI_sQ, gI_sL, gI_sD, gR_sI, gR_sA, gR_sQ, gR_sL, gR_sD, gA_sI, gA_sR, gA_sQ, gA_sL, gA_sD, gQ_sI, gQ_sR, gQ_sA, gQ_sL, gQ_sD, gL_sI, gL_sR, gL_sA, gL_sQ, gL_sD, kd_nO, kd_nA, *]) (by first | rfl | assumption) (by first | rfl | assumption) ?_
      refine AW.name (fun H2 hH2 => ?_)
      have hU2 : MU m ma [77, 91, 89] H1 H2 := by rw [hH2]; exact ((MU.rf.sI (by decide) (by decide) (by decide)).sI (by decide) (by decide) (by decide)).sI (by decide) (by decide) (by decide)
      have hM2 := hM1.mf hU2.1
      have e02 := hM2.1
      have z91 : gI H2 91 m = oI w := by
        rw [hH2, gI_sI, if_neg (by omega), gI_sIs]
        try exact hW1
      have z89 : gI H2 89 m = nI 0 := by rw [hH2]; exact gI_sIs
      have z77 : gI H2 77 m = nI 0 := by rw [hH2, gI_sI, if_neg (by omega), gI_sI, if_neg (by omega)]; exact gI_sIs
      have hg2 : gA H2 1068 (ma 68) = g := by rw [← hg1]; exact congrFun (hU2.g68 (by decide)) _
      obtain ⟨e68a_2, e68b_2, e68c_2⟩ : gR H2 68 m = some (ma 68) ∧ kd H2 (ma 68) = 1068 ∧ ln H2 (ma 68) = 385 := hM2.2 68 (by decide)
      obtain ⟨e70a_2, e70b_2, e70c_2⟩ : gR H2 70 m = some (ma 70) ∧ kd H2 (ma 70) = 1070 ∧ ln H2 (ma 70) = 385 := hM2.2 70 (by decide)
      refine r_iload_n (i := 1) dX3_read_34 rfl rfl ?_
      refine r_if_ne (tgt := 44) dX3_read_35 (by decide) (fun h35 => ?_) (fun h35 => ?_)
      · refine r_aload_n (i := 0) dX3_read_44 rfl rfl ?_
        refine r_getR dX3_read_45 fR_X3_7 (by first | assumption | (simp only [kd_sI, kd_sR, kd_sA, kd_sQ, kd_sL, kd_sD, ln_sI, ln_sR, ln_sA, ln_sQ, ln_sL, ln_sD, gI_sR, gI_sA, gI_sQ, gI_sL, gI_sD, gR_sI, gR_sA, gR_sQ, gR_sL, gR_sD, gA_sI, gA_sR, gA_sQ, gA_sL, gA_sD, gQ_sI, gQ_sR, gQ_sA, gQ_sL, gQ_sD, gL_sI, gL_sR, gL_sA, gL_sQ, gL_sD]; assumption) | simp [kd_sI, kd_sR, kd_sA, kd_sQ, kd_sL, kd_sD, ln_sI, ln_sR, ln_sA, ln_sQ, ln_sL, ln_sD, gI_sR, gI_sA, gI_sQ, gI_sL, gI_sD, gR_sI, gR_sA, gR_sQ, gR_sL, gR_sD, gA_sI, gA_sR, gA_sQ, gA_sL, gA_sD, gQ_sI, gQ_sR, gQ_sA, gQ_sL, gQ_sD, gL_sI, gL_sR, gL_sA, gL_sQ, gL_sD, kd_nO, kd_nA, *]) (by first | assumption | exact gI_sIs | exact gR_sRs | with_reducible rfl | (simp only [kd_sI, kd_sR, kd_sA, kd_sQ, kd_sL, kd_sD, ln_sI, ln_sR, ln_sA, ln_sQ, ln_sL, ln_sD, gI_sR, gI_sA, gI_sQ, gI_sL, gI_sD, gR_sI, gR_sA, gR_sQ, gR_sL, gR_sD, gA_sI, gA_sR, gA_sQ, gA_sL, gA_sD, gQ_sI, gQ_sR, gQ_sA, gQ_sL, gQ_sD, gL_sI, gL_sR, gL_sA, gL_sQ, gL_sD]; first | done | assumption | with_reducible rfl) | rfl) ?_
        refine r_iconst (v := nI 0) dX3_read_48 (by decide) ?_
        refine r_aload_n (i := 0) dX3_read_49 rfl rfl ?_
        refine r_getR dX3_read_50 fR_X3_16 (by first | assumption | (simp only [kd_sI, kd_sR, kd_sA, kd_sQ, kd_sL, kd_sD, ln_sI, ln_sR, ln_sA, ln_sQ, ln_sL, ln_sD, gI_sR, gI_sA, gI_sQ, gI_sL, gI_sD, gR_sI, gR_sA, gR_sQ, gR_sL, gR_sD, gA_sI, gA_sR, gA_sQ, gA_sL, gA_sD, gQ_sI, gQ_sR, gQ_sA, gQ_sL, gQ_sD, gL_sI, gL_sR, gL_sA, gL_sQ, gL_sD]; assumption) | simp [kd_sI, kd_sR, kd_sA, kd_sQ, kd_sL, kd_sD, ln_sI, ln_sR, ln_sA, ln_sQ, ln_sL, ln_sD, gI_sR, gI_sA, gI_sQ, gI_sL, gI_sD, gR_sI, gR_sA, gR_sQ, gR_sL, gR_sD, gA_sI, gA_sR, gA_sQ, gA_sL, gA_sD, gQ_sI, gQ_sR, gQ_sA, gQ_sL, gQ_sD, gL_sI, gL_sR, gL_sA, gL_sQ, gL_sD, kd_nO, kd_nA, *]) (by first | assumption | exact gI_sIs | exact gR_sRs | with_reducible rfl | (simp only [kd_sI, kd_sR, kd_sA, kd_sQ, kd_sL, kd_sD, ln_sI, ln_sR, ln_sA, ln_sQ, ln_sL, ln_sD, gI_sR, gI_sA, gI_sQ, gI_sL, gI_sD, gR_sI, gR_sA, gR_sQ, gR_sL, gR_sD, gA_sI, gA_sR, gA_sQ, gA_sL, gA_sD, gQ_sI, gQ_sR, gQ_sA, gQ_sL, gQ_sD, gL_sI, gL_sR, gL_sA, gL_sQ, gL_sD]; first | done | assumption | with_reducible rfl) | rfl) ?_
        refine r_iconst (v := nI 0) dX3_read_53 (by decide) ?_
        refine r_callS (As := [_, _, _, _]) (mc' := 0) (ms' := 0) dX3_read_54 k_X3_72 rfl (by first | assumption | omega) (by first | assumption | omega) (by first | assumption | omega) (Nat.le_of_ble_eq_true rfl) ?_
        refine s_copies (a := ma 68) (b := ma 70) (k1 := 1068) (k2 := 1070) (n1 := 385) (n2 := 385) (p := 0) (q := 0) e68b_2 e70b_2 (by decide) (by decide) (by omega) e68c_2 e70c_2 (by decide) (by decide) (by decide) (by decide) ?_
        refine AW.name (fun H3 hH3 => ?_)
        have hU3 : MU m ma [70] H2 H3 := by rw [hH3]; exact MU.rf.sA (f := 70) (Or.inl (by decide)) (by decide) (by decide)
        have hM3 := hM2.mf hU3.1
        have e03 := hM3.1
        have z70 : ∀ j, j < 385 → gA H3 1070 (ma 70) j = g j := by
          intro j hj
          rw [hH3, gA_sAs]
          unfold cpF
          rw [if_pos (by omega), hg2]
          simp
        refine r_aload_n (i := 0) dX3_read_57 rfl rfl ?_
        refine r_iconst (v := nI 1) dX3_read_58 (by decide) ?_
        refine r_putI dX3_read_59 fG_X3_76 (fun _ => by first | rfl | contradiction) (by first | assumption | (simp only [kd_sI, kd_sR, kd_sA, kd_sQ, kd_sL, kd_sD, ln_sI, ln_sR, ln_sA, ln_sQ, ln_sL, ln_sD, gI_sR, gI_sA, gI_sQ, gI_sL, gI_sD, gR_sI, gR_sA, gR_sQ, gR_sL, gR_sD, gA_sI, gA_sR, gA_sQ, gA_sL, gA_sD, gQ_sI, gQ_sR, gQ_sA, gQ_sL, gQ_sD, gL_sI, gL_sR, gL_sA, gL_sQ, gL_sD]; assumption) | simp [kd_sI, kd_sR, kd_sA, kd_sQ, kd_sL, kd_sD, ln_sI, ln_sR, ln_sA, ln_sQ, ln_sL, ln_sD, gI_sR, gI_sA, gI_sQ, gI_sL, gI_sD, gR_sI, gR_sA, gR_sQ, gR_sL, gR_sD, gA_sI, gA_sR, gA_sQ, gA_sL, gA_sD, gQ_sI, gQ_sR, gQ_sA, gQ_sL, gQ_sD, gL_sI, gL_sR, gL_sA, gL_sQ, gL_sD, kd_nO, kd_nA, *]) (by first | rfl | assumption) (by first | rfl | assumption) ?_
        refine r_iconst (v := nI 0) dX3_read_62 (by decide) ?_
        refine r_istore_n (i := 2) dX3_read_63 rfl (Nat.le_of_ble_eq_true rfl) (by simp only [lset]; rfl) ?_
        refine AW.name (fun H4 hH4 => ?_)
        have hU4 : MU m ma [72] H3 H4 := by rw [hH4]; exact MU.rf.sI (by decide) (by decide) (by decide)
        have hM4 := hM3.mf hU4.1
        have e04 := hM4.1
        have y72 : gI H4 72 m = bI true := by rw [hH4]; exact gI_sIs
        have hU14 : MU m ma [70, 72, 77, 89, 91] H1 H4 := ((hU2.tr hU3).tr hU4).sub (by decide)
        have hg4 : gA H4 1068 (ma 68) = g := by rw [← hg1]; exact congrFun (hU14.g68 (by decide)) _
        have hP4 := hP1.mu hU14 (by decide) (by decide)
        have y94 : gI H4 94 m = nI its.length := by rw [(hU14.2 94 (by decide)).1]; exact t94
        have y93 : gA H4 1093 (ma 93) = gA H1 1093 (ma 93) := by rw [show gA H4 1093 = gA H1 1093 from (hU14.2 93 (by decide)).2]
        have y92 : gI H4 92 m = oI r := by rw [(hU14.2 92 (by decide)).1]; exact hRe1
        have y91 : gI H4 91 m = oI w := by rw [((hU3.tr hU4).2 91 (by decide)).1]; exact z91
        have y89 : gI H4 89 m = nI 0 := by rw [((hU3.tr hU4).2 89 (by decide)).1]; exact z89
        have y77 : gI H4 77 m = nI 0 := by rw [((hU3.tr hU4).2 77 (by decide)).1]; exact z77
        have y70 : ∀ j, j < 385 → gA H4 1070 (ma 70) j = g j := by
          intro j hj
          rw [show gA H4 1070 = gA H3 1070 from (hU4.2 70 (by decide)).2]
          exact z70 j hj
        have hzg := (hJ1 g hJ).2
        have fin : ∀ (j : Nat) (gk : Nat → Int32) (H5 : AH), j ≤ its.length → ZT gk → MU m ma [68, 73, 74, 77] H4 H5 → PastR H5 m ma L → gA H5 1068 (ma 68) = gk → (j = its.length → gI H5 77 m = nI 0) → runC its 0 g = (j, gk) → AW mX3_read G d Qr Qx 0 0 H5 89 [some (vR (some m)), some (vI (bI true)), some (vI (nI j))] [] := by
          intro j gk H5 hj hzk hU5 hP5 hg5 h775 hrun
          have hM5 := hM4.mf hU5.1
          have e05 := hM5.1
          rw [hrun] at hQ
          dsimp only at hQ
          refine r_aload_n (i := 0) dX3_read_89 rfl rfl ?_
          refine r_iconst (v := nI 0) dX3_read_90 (by decide) ?_
          refine r_putI dX3_read_91 fG_X3_76 (fun _ => by first | rfl | contradiction) (by first | assumption | (simp only [kd_sI, kd_sR, kd_sA, kd_sQ, kd_sL, kd_sD, ln_sI, ln_sR, ln_sA, ln_sQ, ln_sL, ln_sD, gI_sR, gI_sA, gI_sQ, gI_sL, gI_sD, gR_sI, gR_sA, gR_sQ, gR_sL, gR_sD, gA_sI, gA_sR, gA_sQ, gA_sL, gA_sD, gQ_sI, gQ_sR, gQ_sA, gQ_sL, gQ_sD, gL_sI, gL_sR, gL_sA, gL_sQ, gL_sD]; assumption) | simp [kd_sI, kd_sR, kd_sA, kd_sQ, kd_sL, kd_sD, ln_sI, ln_sR, ln_sA, ln_sQ, ln_sL, ln_sD, gI_sR, gI_sA, gI_sQ, gI_sL, gI_sD, gR_sI, gR_sA, gR_sQ, gR_sL, gR_sD, gA_sI, gA_sR, gA_sQ, gA_sL, gA_sD, gQ_sI, gQ_sR, gQ_sA, gQ_sL, gQ_sD, gL_sI, gL_sR, gL_sA, gL_sQ, gL_sD, kd_nO, kd_nA, *]) (by first | rfl | assumption) (by first | rfl | assumption) ?_
          refine AW.name (fun H6 hH6 => ?_)
          have hU6 : MU m ma [72] H5 H6 := by rw [hH6]; exact MU.rf.sI (by decide) (by decide) (by decide)
          have hM6 := hM5.mf hU6.1
          have e06 := hM6.1
          have hP6 := hP5.mu hU6 (by decide) (by decide)
          have hg6 : gA H6 1068 (ma 68) = gk := by rw [← hg5]; exact congrFun (hU6.g68 (by decide)) _
          have x72 : gI H6 72 m = bI false := by rw [hH6]; exact gI_sIs
          have hU46 := hU5.tr hU6
          have x94 : gI H6 94 m = nI its.length := by rw [(hU46.2 94 (by decide)).1]; exact y94
          have x92 : gI H6 92 m = oI r := by rw [(hU46.2 92 (by decide)).1]; exact y92
          have x91 : gI H6 91 m = oI w := by rw [(hU46.2 91 (by decide)).1]; exact y91
          have x89 : gI H6 89 m = nI 0 := by rw [(hU46.2 89 (by decide)).1]; exact y89
          have x70 : ∀ j, j < 385 → gA H6 1070 (ma 70) j = g j := by
            intro j hj
            rw [show gA H6 1070 = gA H4 1070 from (hU46.2 70 (by decide)).2]
            exact y70 j hj
          have hU06 : MU m ma rF H H6 := ((hU1.tr hU14).tr hU46).sub (by decide)
          obtain ⟨e68a_6, e68b_6, e68c_6⟩ : gR H6 68 m = some (ma 68) ∧ kd H6 (ma 68) = 1068 ∧ ln H6 (ma 68) = 385 := hM6.2 68 (by decide)
          obtain ⟨e70a_6, e70b_6, e70c_6⟩ : gR H6 70 m = some (ma 70) ∧ kd H6 (ma 70) = 1070 ∧ ln H6 (ma 70) = 385 := hM6.2 70 (by decide)
          refine r_iload_n (i := 2) dX3_read_94 rfl rfl ?_
          refine r_aload_n (i := 0) dX3_read_95 rfl rfl ?_
          refine r_getI dX3_read_96 fR_X3_230 (by first | assumption | (simp only [kd_sI, kd_sR, kd_sA, kd_sQ, kd_sL, kd_sD, ln_sI, ln_sR, ln_sA, ln_sQ, ln_sL, ln_sD, gI_sR, gI_sA, gI_sQ, gI_sL, gI_sD, gR_sI, gR_sA, gR_sQ, gR_sL, gR_sD, gA_sI, gA_sR, gA_sQ, gA_sL, gA_sD, gQ_sI, gQ_sR, gQ_sA, gQ_sL, gQ_sD, gL_sI, gL_sR, gL_sA, gL_sQ, gL_sD]; assumption) | simp [kd_sI, kd_sR, kd_sA, kd_sQ, kd_sL, kd_sD, ln_sI, ln_sR, ln_sA, ln_sQ, ln_sL, ln_sD, gI_sR, gI_sA, gI_sQ, gI_sL, gI_sD, gR_sI, gR_sA, gR_sQ, gR_sL, gR_sD, gA_sI, gA_sR, gA_sQ, gA_sL, gA_sD, gQ_sI, gQ_sR, gQ_sA, gQ_sL, gQ_sD, gL_sI, gL_sR, gL_sA, gL_sQ, gL_sD, kd_nO, kd_nA, *]) (by first | assumption | exact gI_sIs | exact gR_sRs | with_reducible rfl | (simp only [kd_sI, kd_sR, kd_sA, kd_sQ, kd_sL, kd_sD, ln_sI, ln_sR, ln_sA, ln_sQ, ln_sL, ln_sD, gI_sR, gI_sA, gI_sQ, gI_sL, gI_sD, gR_sI, gR_sA, gR_sQ, gR_sL, gR_sD, gA_sI, gA_sR, gA_sQ, gA_sL, gA_sD, gQ_sI, gQ_sR, gQ_sA, gQ_sL, gQ_sD, gL_sI, gL_sR, gL_sA, gL_sQ, gL_sD]; first | done | assumption | with_reducible rfl) | rfl) ?_
          refine r_icmp_ge (tgt := 126) dX3_read_99 (by decide) (fun h99 => ?_) (fun h99 => ?_)
          · have hje : j = its.length := Nat.le_antisymm hj ((nI_leI (by omega) (by omega)).mp h99)
            have x77 : gI H6 77 m = nI 0 := by rw [(hU6.2 77 (by decide)).1]; exact h775 hje
            rw [if_neg (by omega)] at hQ
            refine r_aload_n (i := 0) dX3_read_126 rfl rfl ?_
            refine r_aload_n (i := 0) dX3_read_127 rfl rfl ?_
            refine r_getR dX3_read_128 fR_X3_16 (by first | assumption | (simp only [kd_sI, kd_sR, kd_sA, kd_sQ, kd_sL, kd_sD, ln_sI, ln_sR, ln_sA, ln_sQ, ln_sL, ln_sD, gI_sR, gI_sA, gI_sQ, gI_sL, gI_sD, gR_sI, gR_sA, gR_sQ, gR_sL, gR_sD, gA_sI, gA_sR, gA_sQ, gA_sL, gA_sD, gQ_sI, gQ_sR, gQ_sA, gQ_sL, gQ_sD, gL_sI, gL_sR, gL_sA, gL_sQ, gL_sD]; assumption) | simp [kd_sI, kd_sR, kd_sA, kd_sQ, kd_sL, kd_sD, ln_sI, ln_sR, ln_sA, ln_sQ, ln_sL, ln_sD, gI_sR, gI_sA, gI_sQ, gI_sL, gI_sD, gR_sI, gR_sA, gR_sQ, gR_sL, gR_sD, gA_sI, gA_sR, gA_sQ, gA_sL, gA_sD, gQ_sI, gQ_sR, gQ_sA, gQ_sL, gQ_sD, gL_sI, gL_sR, gL_sA, gL_sQ, gL_sD, kd_nO, kd_nA, *]) (by first | assumption | exact gI_sIs | exact gR_sRs | with_reducible rfl | (simp only [kd_sI, kd_sR, kd_sA, kd_sQ, kd_sL, kd_sD, ln_sI, ln_sR, ln_sA, ln_sQ, ln_sL, ln_sD, gI_sR, gI_sA, gI_sQ, gI_sL, gI_sD, gR_sI, gR_sA, gR_sQ, gR_sL, gR_sD, gA_sI, gA_sR, gA_sQ, gA_sL, gA_sD, gQ_sI, gQ_sR, gQ_sA, gQ_sL, gQ_sD, gL_sI, gL_sR, gL_sA, gL_sQ, gL_sD]; first | done | assumption | with_reducible rfl) | rfl) ?_
            refine r_callV (As := [_]) (mc' := 0) (ms' := 0) dX3_read_131 k_X3_80 rfl (by first | assumption | (simp only [kd_sI, kd_sR, kd_sA, kd_sQ, kd_sL, kd_sD, ln_sI, ln_sR, ln_sA, ln_sQ, ln_sL, ln_sD, gI_sR, gI_sA, gI_sQ, gI_sL, gI_sD, gR_sI, gR_sA, gR_sQ, gR_sL, gR_sD, gA_sI, gA_sR, gA_sQ, gA_sL, gA_sD, gQ_sI, gQ_sR, gQ_sA, gQ_sL, gQ_sD, gL_sI, gL_sR, gL_sA, gL_sQ, gL_sD]; assumption) | simp [kd_sI, kd_sR, kd_sA, kd_sQ, kd_sL, kd_sD, ln_sI, ln_sR, ln_sA, ln_sQ, ln_sL, ln_sD, gI_sR, gI_sA, gI_sQ, gI_sL, gI_sD, gR_sI, gR_sA, gR_sQ, gR_sL, gR_sD, gA_sI, gA_sR, gA_sQ, gA_sL, gA_sD, gQ_sI, gQ_sR, gQ_sA, gQ_sL, gQ_sD, gL_sI, gL_sR, gL_sA, gL_sQ, gL_sD, kd_nO, kd_nA, *]) (T := TX3) (N := 27) rfl (by first | assumption | omega) (by first | assumption | omega) (by first | assumption | omega) (Nat.le_of_ble_eq_true rfl) ?_
            refine s_keeps (f := 70) (L := L) (r := g) (by omega) hM6 (Or.inr rfl) hP6 x70 hzg ?_
            intro H7 hU7 hP7
            have hM7 := hM6.mf hU7.1
            have e07 := hM7.1
            have w94 : gI H7 94 m = nI its.length := by rw [(hU7.2 94 (by decide)).1]; exact x94
            show AW mX3_read G d Qr Qx _ _ H7 134 _ _
            refine r_aload_n (i := 0) dX3_read_134 rfl rfl ?_
            refine r_getI dX3_read_135 fR_X3_230 (by first | assumption | (simp only [kd_sI, kd_sR, kd_sA, kd_sQ, kd_sL, kd_sD, ln_sI, ln_sR, ln_sA, ln_sQ, ln_sL, ln_sD, gI_sR, gI_sA, gI_sQ, gI_sL, gI_sD, gR_sI, gR_sA, gR_sQ, gR_sL, gR_sD, gA_sI, gA_sR, gA_sQ, gA_sL, gA_sD, gQ_sI, gQ_sR, gQ_sA, gQ_sL, gQ_sD, gL_sI, gL_sR, gL_sA, gL_sQ, gL_sD]; assumption) | simp [kd_sI, kd_sR, kd_sA, kd_sQ, kd_sL, kd_sD, ln_sI, ln_sR, ln_sA, ln_sQ, ln_sL, ln_sD, gI_sR, gI_sA, gI_sQ, gI_sL, gI_sD, gR_sI, gR_sA, gR_sQ, gR_sL, gR_sD, gA_sI, gA_sR, gA_sQ, gA_sL, gA_sD, gQ_sI, gQ_sR, gQ_sA, gQ_sL, gQ_sD, gL_sI, gL_sR, gL_sA, gL_sQ, gL_sD, kd_nO, kd_nA, *]) (by first | assumption | exact gI_sIs | exact gR_sRs | with_reducible rfl | (simp only [kd_sI, kd_sR, kd_sA, kd_sQ, kd_sL, kd_sD, ln_sI, ln_sR, ln_sA, ln_sQ, ln_sL, ln_sD, gI_sR, gI_sA, gI_sQ, gI_sL, gI_sD, gR_sI, gR_sA, gR_sQ, gR_sL, gR_sD, gA_sI, gA_sR, gA_sQ, gA_sL, gA_sD, gQ_sI, gQ_sR, gQ_sA, gQ_sL, gQ_sD, gL_sI, gL_sR, gL_sA, gL_sQ, gL_sD]; first | done | assumption | with_reducible rfl) | rfl) ?_
            refine r_ireturn dX3_read_138 rfl (by first | rfl | assumption | exact vp_nar_int _ | exact pk_nc _) ?_
            exact hQ H7 ((hU06.tr hU7).sub (by decide)) (by rw [(hU7.2 77 (by decide)).1]; exact x77) (by rw [← hg6]; exact congrFun (hU7.g68 (by decide)) _) hP7 (empty _ (by rw [(hU7.2 89 (by decide)).1]; exact x89)) (by rw [(hU7.2 72 (by decide)).1]; exact x72) (by rw [(hU7.2 91 (by decide)).1]; exact x91) (by rw [(hU7.2 92 (by decide)).1]; exact x92)
          · have hjl : j < its.length := Nat.lt_of_not_le (fun q => h99 (nI_le q (by omega)))
            rw [if_pos hjl] at hQ
            refine r_aload_n (i := 0) dX3_read_102 rfl rfl ?_
            refine r_iload_n (i := 2) dX3_read_103 rfl rfl ?_
            refine r_putI dX3_read_104 fG_X3_57 (fun _ => by first | rfl | contradiction) (by first | assumption | (simp only [kd_sI, kd_sR, kd_sA, kd_sQ, kd_sL, kd_sD, ln_sI, ln_sR, ln_sA, ln_sQ, ln_sL, ln_sD, gI_sR, gI_sA, gI_sQ, gI_sL, gI_sD, gR_sI, gR_sA, gR_sQ, gR_sL, gR_sD, gA_sI, gA_sR, gA_sQ, gA_sL, gA_sD, gQ_sI, gQ_sR, gQ_sA, gQ_sL, gQ_sD, gL_sI, gL_sR, gL_sA, gL_sQ, gL_sD]; assumption) | simp [kd_sI, kd_sR, kd_sA, kd_sQ, kd_sL, kd_sD, ln_sI, ln_sR, ln_sA, ln_sQ, ln_sL, ln_sD, gI_sR, gI_sA, gI_sQ, gI_sL, gI_sD, gR_sI, gR_sA, gR_sQ, gR_sL, gR_sD, gA_sI, gA_sR, gA_sQ, gA_sL, gA_sD, gQ_sI, gQ_sR, gQ_sA, gQ_sL, gQ_sD, gL_sI, gL_sR, gL_sA, gL_sQ, gL_sD, kd_nO, kd_nA, *]) (by first | rfl | assumption) (by first | rfl | assumption) ?_
            refine AW.name (fun H7 hH7 => ?_)
            have hU7 : MU m ma [92] H6 H7 := by rw [hH7]; exact MU.rf.sI (by decide) (by decide) (by decide)
            have hM7 := hM6.mf hU7.1
            have e07 := hM7.1
            have w92 : gI H7 92 m = nI j := by rw [hH7]; exact gI_sIs
            obtain ⟨e68a_7, e68b_7, e68c_7⟩ : gR H7 68 m = some (ma 68) ∧ kd H7 (ma 68) = 1068 ∧ ln H7 (ma 68) = 385 := hM7.2 68 (by decide)
            obtain ⟨e70a_7, e70b_7, e70c_7⟩ : gR H7 70 m = some (ma 70) ∧ kd H7 (ma 70) = 1070 ∧ ln H7 (ma 70) = 385 := hM7.2 70 (by decide)
            refine r_aload_n (i := 0) dX3_read_107 rfl rfl ?_
            refine r_getR dX3_read_108 fR_X3_16 (by first | assumption | (simp only [kd_sI, kd_sR, kd_sA, kd_sQ, kd_sL, kd_sD, ln_sI, ln_sR, ln_sA, ln_sQ, ln_sL, ln_sD, gI_sR, gI_sA, gI_sQ, gI_sL, gI_sD, gR_sI, gR_sA, gR_sQ, gR_sL, gR_sD, gA_sI, gA_sR, gA_sQ, gA_sL, gA_sD, gQ_sI, gQ_sR, gQ_sA, gQ_sL, gQ_sD, gL_sI, gL_sR, gL_sA, gL_sQ, gL_sD]; assumption) | simp [kd_sI, kd_sR, kd_sA, kd_sQ, kd_sL, kd_sD, ln_sI, ln_sR, ln_sA, ln_sQ, ln_sL, ln_sD, gI_sR, gI_sA, gI_sQ, gI_sL, gI_sD, gR_sI, gR_sA, gR_sQ, gR_sL, gR_sD, gA_sI, gA_sR, gA_sQ, gA_sL, gA_sD, gQ_sI, gQ_sR, gQ_sA, gQ_sL, gQ_sD, gL_sI, gL_sR, gL_sA, gL_sQ, gL_sD, kd_nO, kd_nA, *]) (by first | assumption | exact gI_sIs | exact gR_sRs | with_reducible rfl | (simp only [kd_sI, kd_sR, kd_sA, kd_sQ, kd_sL, kd_sD, ln_sI, ln_sR, ln_sA, ln_sQ, ln_sL, ln_sD, gI_sR, gI_sA, gI_sQ, gI_sL, gI_sD, gR_sI, gR_sA, gR_sQ, gR_sL, gR_sD, gA_sI, gA_sR, gA_sQ, gA_sL, gA_sD, gQ_sI, gQ_sR, gQ_sA, gQ_sL, gQ_sD, gL_sI, gL_sR, gL_sA, gL_sQ, gL_sD]; first | done | assumption | with_reducible rfl) | rfl) ?_
            refine r_iconst (v := nI 0) dX3_read_111 (by decide) ?_
            refine r_aload_n (i := 0) dX3_read_112 rfl rfl ?_
            refine r_getR dX3_read_113 fR_X3_7 (by first | assumption | (simp only [kd_sI, kd_sR, kd_sA, kd_sQ, kd_sL, kd_sD, ln_sI, ln_sR, ln_sA, ln_sQ, ln_sL, ln_sD, gI_sR, gI_sA, gI_sQ, gI_sL, gI_sD, gR_sI, gR_sA, gR_sQ, gR_sL, gR_sD, gA_sI, gA_sR, gA_sQ, gA_sL, gA_sD, gQ_sI, gQ_sR, gQ_sA, gQ_sL, gQ_sD, gL_sI, gL_sR, gL_sA, gL_sQ, gL_sD]; assumption) | simp [kd_sI, kd_sR, kd_sA, kd_sQ, kd_sL, kd_sD, ln_sI, ln_sR, ln_sA, ln_sQ, ln_sL, ln_sD, gI_sR, gI_sA, gI_sQ, gI_sL, gI_sD, gR_sI, gR_sA, gR_sQ, gR_sL, gR_sD, gA_sI, gA_sR, gA_sQ, gA_sL, gA_sD, gQ_sI, gQ_sR, gQ_sA, gQ_sL, gQ_sD, gL_sI, gL_sR, gL_sA, gL_sQ, gL_sD, kd_nO, kd_nA, *]) (by first | assumption | exact gI_sIs | exact gR_sRs | with_reducible rfl | (simp only [kd_sI, kd_sR, kd_sA, kd_sQ, kd_sL, kd_sD, ln_sI, ln_sR, ln_sA, ln_sQ, ln_sL, ln_sD, gI_sR, gI_sA, gI_sQ, gI_sL, gI_sD, gR_sI, gR_sA, gR_sQ, gR_sL, gR_sD, gA_sI, gA_sR, gA_sQ, gA_sL, gA_sD, gQ_sI, gQ_sR, gQ_sA, gQ_sL, gQ_sD, gL_sI, gL_sR, gL_sA, gL_sQ, gL_sD]; first | done | assumption | with_reducible rfl) | rfl) ?_
            refine r_iconst (v := nI 0) dX3_read_116 (by decide) ?_
            refine r_callS (As := [_, _, _, _]) (mc' := 0) (ms' := 0) dX3_read_117 k_X3_72 rfl (by first | assumption | omega) (by first | assumption | omega) (by first | assumption | omega) (Nat.le_of_ble_eq_true rfl) ?_
            refine s_copies (a := ma 70) (b := ma 68) (k1 := 1070) (k2 := 1068) (n1 := 385) (n2 := 385) (p := 0) (q := 0) e70b_7 e68b_7 (by decide) (by decide) (by omega) e70c_7 e68c_7 (by decide) (by decide) (by decide) (by decide) ?_
            have hz7 : ZT (gA H7 1068 (ma 68)) := by
              rw [show gA H7 1068 (ma 68) = gk by rw [← hg6]; exact congrFun (hU7.g68 (by decide)) _]
              exact hzk
            rw [cpF_z (r := g) hz7 hzg (fun j hj => by rw [Nat.zero_add, show gA H7 1070 = gA H6 1070 from (hU7.2 70 (by decide)).2]; exact x70 j hj)]
            refine AW.name (fun H8 hH8 => ?_)
            have hU8 : MU m ma [68] H7 H8 := by rw [hH8]; exact MU.rf.sA (f := 68) (Or.inl (by decide)) (by decide) (by decide)
            have hM8 := hM7.mf hU8.1
            have e08 := hM8.1
            have hg8 : gA H8 1068 (ma 68) = g := by rw [hH8, gA_sAs]
            refine r_aload_n (i := 0) dX3_read_120 rfl rfl ?_
            refine r_iconst (v := nI 2) dX3_read_121 (by decide) ?_
            refine r_callV (As := [_]) (mc' := 0) (ms' := 0) dX3_read_122 k_X3_175 rfl (by first | assumption | (simp only [kd_sI, kd_sR, kd_sA, kd_sQ, kd_sL, kd_sD, ln_sI, ln_sR, ln_sA, ln_sQ, ln_sL, ln_sD, gI_sR, gI_sA, gI_sQ, gI_sL, gI_sD, gR_sI, gR_sA, gR_sQ, gR_sL, gR_sD, gA_sI, gA_sR, gA_sQ, gA_sL, gA_sD, gQ_sI, gQ_sR, gQ_sA, gQ_sL, gQ_sD, gL_sI, gL_sR, gL_sA, gL_sQ, gL_sD]; assumption) | simp [kd_sI, kd_sR, kd_sA, kd_sQ, kd_sL, kd_sD, ln_sI, ln_sR, ln_sA, ln_sQ, ln_sL, ln_sD, gI_sR, gI_sA, gI_sQ, gI_sL, gI_sD, gR_sI, gR_sA, gR_sQ, gR_sL, gR_sD, gA_sI, gA_sR, gA_sQ, gA_sL, gA_sD, gQ_sI, gQ_sR, gQ_sA, gQ_sL, gQ_sD, gL_sI, gL_sR, gL_sA, gL_sQ, gL_sD, kd_nO, kd_nA, *]) (T := TX3) (N := 27) rfl (by first | assumption | omega) (by first | assumption | omega) (by first | assumption | omega) (Nat.le_of_ble_eq_true rfl) ?_
            refine s_fails hM8 ?_
            refine r_ireturn dX3_read_125 rfl (by first | rfl | assumption | exact vp_nar_int _ | exact pk_nc _) ?_
            have hU9 : MU m ma [77] H8 (sI H8 77 m (nI 2)) := MU.rf.sI (by decide) (by decide) (by decide)
            have hU69 : MU m ma [92, 68, 77] H6 (sI H8 77 m (nI 2)) := ((hU7.tr hU8).tr hU9).sub (by decide)
            exact hQ _ ((hU06.tr hU69).sub (by decide)) gI_sIs hg8 (hP6.mu hU69 (by decide) (by decide)) (empty _ (by rw [(hU69.2 89 (by decide)).1]; exact x89)) (by rw [(hU69.2 72 (by decide)).1]; exact x72) (by rw [(hU69.2 91 (by decide)).1]; exact x91) (by rw [((hU8.tr hU9).2 92 (by decide)).1]; exact w92)
        have loop : ∀ (k j : Nat) (gk : Nat → Int32) (H5 : AH), j + k = its.length → J gk → MU m ma [68, 73, 74, 77] H4 H5 → PastR H5 m ma L → gA H5 1068 (ma 68) = gk → gI H5 77 m = nI 0 → runC its 0 g = runC (its.drop j) j gk → AW mX3_read G d Qr Qx 0 0 H5 64 [some (vR (some m)), some (vI (bI true)), some (vI (nI j))] [] := by
          intro k
          induction k with
          | zero =>
            intro j gk H5 hj hJk hU5 hP5 hg5 h775 hrun
            have hM5 := hM4.mf hU5.1
            have e05 := hM5.1
            have x94 : gI H5 94 m = nI its.length := by rw [(hU5.2 94 (by decide)).1]; exact y94
            rw [show its.drop j = [] from List.drop_eq_nil_of_le (by omega)] at hrun
            refine r_iload_n (i := 2) dX3_read_64 rfl rfl ?_
            refine r_aload_n (i := 0) dX3_read_65 rfl rfl ?_
            refine r_getI dX3_read_66 fR_X3_230 (by first | assumption | (simp only [kd_sI, kd_sR, kd_sA, kd_sQ, kd_sL, kd_sD, ln_sI, ln_sR, ln_sA, ln_sQ, ln_sL, ln_sD, gI_sR, gI_sA, gI_sQ, gI_sL, gI_sD, gR_sI, gR_sA, gR_sQ, gR_sL, gR_sD, gA_sI, gA_sR, gA_sQ, gA_sL, gA_sD, gQ_sI, gQ_sR, gQ_sA, gQ_sL, gQ_sD, gL_sI, gL_sR, gL_sA, gL_sQ, gL_sD]; assumption) | simp [kd_sI, kd_sR, kd_sA, kd_sQ, kd_sL, kd_sD, ln_sI, ln_sR, ln_sA, ln_sQ, ln_sL, ln_sD, gI_sR, gI_sA, gI_sQ, gI_sL, gI_sD, gR_sI, gR_sA, gR_sQ, gR_sL, gR_sD, gA_sI, gA_sR, gA_sQ, gA_sL, gA_sD, gQ_sI, gQ_sR, gQ_sA, gQ_sL, gQ_sD, gL_sI, gL_sR, gL_sA, gL_sQ, gL_sD, kd_nO, kd_nA, *]) (by first | assumption | exact gI_sIs | exact gR_sRs | with_reducible rfl | (simp only [kd_sI, kd_sR, kd_sA, kd_sQ, kd_sL, kd_sD, ln_sI, ln_sR, ln_sA, ln_sQ, ln_sL, ln_sD, gI_sR, gI_sA, gI_sQ, gI_sL, gI_sD, gR_sI, gR_sA, gR_sQ, gR_sL, gR_sD, gA_sI, gA_sR, gA_sQ, gA_sL, gA_sD, gQ_sI, gQ_sR, gQ_sA, gQ_sL, gQ_sD, gL_sI, gL_sR, gL_sA, gL_sQ, gL_sD]; first | done | assumption | with_reducible rfl) | rfl) ?_
            refine r_icmp_ge (tgt := 89) dX3_read_69 (by decide) (fun h69 => ?_) (fun h69 => ?_)
            · exact fin j gk H5 (by omega) (hJ1 gk hJk).2 hU5 hP5 hg5 (fun _ => h775) hrun
            · exact absurd (nI_le (by omega) (by omega)) h69
          | succ k ih =>
            intro j gk H5 hj hJk hU5 hP5 hg5 h775 hrun
            have hM5 := hM4.mf hU5.1
            have e05 := hM5.1
            have x94 : gI H5 94 m = nI its.length := by rw [(hU5.2 94 (by decide)).1]; exact y94
            have x72 : gI H5 72 m = bI true := by rw [(hU5.2 72 (by decide)).1]; exact y72
            have hjl : j < its.length := by omega
            obtain ⟨hBk, hzk⟩ := hJ1 gk hJk
            have hmem : its.getD j it0 ∈ its := by
              rw [List.getD_eq_getElem?_getD, List.getElem?_eq_getElem hjl]
              exact List.getElem_mem hjl
            have hokj := tok _ hmem
            have hTj : ToldR (gA H5 1093 (ma 93)) j (its.getD j it0) := by
              rw [show gA H5 1093 = gA H4 1093 from (hU5.2 93 (by decide)).2, y93]
              exact tT j hjl
            rw [show its.drop j = its.getD j it0 :: its.drop (j + 1) by
              rw [List.drop_eq_getElem_cons hjl, List.getD_eq_getElem?_getD, List.getElem?_eq_getElem hjl]; rfl] at hrun
            obtain ⟨it, hit⟩ := ex_val (its.getD j it0)
            rw [← hit] at hokj hTj hrun
            rw [show runC (it :: its.drop (j + 1)) j gk = (match carryF gk it with | none => (j, gk) | some g' => runC (its.drop (j + 1)) (j + 1) g') from rfl] at hrun
            refine r_iload_n (i := 2) dX3_read_64 rfl rfl ?_
            refine r_aload_n (i := 0) dX3_read_65 rfl rfl ?_
            refine r_getI dX3_read_66 fR_X3_230 (by first | assumption | (simp only [kd_sI, kd_sR, kd_sA, kd_sQ, kd_sL, kd_sD, ln_sI, ln_sR, ln_sA, ln_sQ, ln_sL, ln_sD, gI_sR, gI_sA, gI_sQ, gI_sL, gI_sD, gR_sI, gR_sA, gR_sQ, gR_sL, gR_sD, gA_sI, gA_sR, gA_sQ, gA_sL, gA_sD, gQ_sI, gQ_sR, gQ_sA, gQ_sL, gQ_sD, gL_sI, gL_sR, gL_sA, gL_sQ, gL_sD]; assumption) | simp [kd_sI, kd_sR, kd_sA, kd_sQ, kd_sL, kd_sD, ln_sI, ln_sR, ln_sA, ln_sQ, ln_sL, ln_sD, gI_sR, gI_sA, gI_sQ, gI_sL, gI_sD, gR_sI, gR_sA, gR_sQ, gR_sL, gR_sD, gA_sI, gA_sR, gA_sQ, gA_sL, gA_sD, gQ_sI, gQ_sR, gQ_sA, gQ_sL, gQ_sD, gL_sI, gL_sR, gL_sA, gL_sQ, gL_sD, kd_nO, kd_nA, *]) (by first | assumption | exact gI_sIs | exact gR_sRs | with_reducible rfl | (simp only [kd_sI, kd_sR, kd_sA, kd_sQ, kd_sL, kd_sD, ln_sI, ln_sR, ln_sA, ln_sQ, ln_sL, ln_sD, gI_sR, gI_sA, gI_sQ, gI_sL, gI_sD, gR_sI, gR_sA, gR_sQ, gR_sL, gR_sD, gA_sI, gA_sR, gA_sQ, gA_sL, gA_sD, gQ_sI, gQ_sR, gQ_sA, gQ_sL, gQ_sD, gL_sI, gL_sR, gL_sA, gL_sQ, gL_sD]; first | done | assumption | with_reducible rfl) | rfl) ?_
            refine r_icmp_ge (tgt := 89) dX3_read_69 (by decide) (fun h69 => ?_) (fun h69 => ?_)
            · exact absurd h69 (nI_ge hjl (by omega))
            · refine r_aload_n (i := 0) dX3_read_72 rfl rfl ?_
              refine r_bipush (v := nI 10) dX3_read_73 (by decide) ?_
              refine r_iload_n (i := 2) dX3_read_75 rfl rfl ?_
              refine r_imul dX3_read_76 ?_
              try simp only [nI_add, pk_mul, nI_1]
              refine r_callV (As := [_]) (mc' := 0) (ms' := 0) dX3_read_77 k_X3_267 rfl (by first | assumption | (simp only [kd_sI, kd_sR, kd_sA, kd_sQ, kd_sL, kd_sD, ln_sI, ln_sR, ln_sA, ln_sQ, ln_sL, ln_sD, gI_sR, gI_sA, gI_sQ, gI_sL, gI_sD, gR_sI, gR_sA, gR_sQ, gR_sL, gR_sD, gA_sI, gA_sR, gA_sQ, gA_sL, gA_sD, gQ_sI, gQ_sR, gQ_sA, gQ_sL, gQ_sD, gL_sI, gL_sR, gL_sA, gL_sQ, gL_sD]; assumption) | simp [kd_sI, kd_sR, kd_sA, kd_sQ, kd_sL, kd_sD, ln_sI, ln_sR, ln_sA, ln_sQ, ln_sL, ln_sD, gI_sR, gI_sA, gI_sQ, gI_sL, gI_sD, gR_sI, gR_sA, gR_sQ, gR_sL, gR_sD, gA_sI, gA_sR, gA_sQ, gA_sL, gA_sD, gQ_sI, gQ_sR, gQ_sA, gQ_sL, gQ_sD, gL_sI, gL_sR, gL_sA, gL_sQ, gL_sD, kd_nO, kd_nA, *]) (T := TX3) (N := 27) rfl (by first | assumption | omega) (by first | assumption | omega) (by first | assumption | omega) (Nat.le_of_ble_eq_true rfl) ?_
              refine s_carriesOut (it := it) (L := L) (by omega) hM5 (by rw [hg5]; exact hBk) hP5 x72 (by rw [hg5]; exact hzk) (by omega) hokj.1 hTj (by rcases hokj.2.2.2.1 with h | h | h | h <;> omega) ?_
              intro H6 hU6 hP6
              have hU46 : MU m ma [68, 73, 74, 77] H4 H6 := (hU5.tr hU6).sub (by decide)
              rw [hg5]
              cases hcf : carryF gk it with
              | none =>
                rw [hcf] at hrun
                dsimp only at hrun ⊢
                intro hg6
                show AW mX3_read G d Qr Qx _ _ H6 80 _ _
                refine r_if_eq (tgt := 89) dX3_read_80 (by decide) (fun h80 => ?_) (fun h80 => ?_)
                · exact fin j gk H6 (by omega) hzk hU46 hP6 hg6 (fun q => by omega) hrun
                · exact absurd rfl h80
              | some g' =>
                rw [hcf] at hrun
                dsimp only at hrun ⊢
                intro h776 hg6
                show AW mX3_read G d Qr Qx _ _ H6 80 _ _
                refine r_if_eq (tgt := 89) dX3_read_80 (by decide) (fun h80 => ?_) (fun h80 => ?_)
                · exact absurd h80 (by decide)
                · refine r_iinc dX3_read_83 rfl (by first | exact nI_1 _ | rfl) (by simp only [lset]; rfl) ?_
                  refine r_goto (tgt := 64) dX3_read_86 (by decide) ?_
                  exact ih (j + 1) g' H6 (by omega) (hJ2 gk it g' hJk hokj hcf) hU46 hP6 hg6 h776 hrun
        exact loop its.length 0 g H4 (by omega) hJ MU.rf hP4 hg4 y77 rfl
      · exact absurd h35 (by show ¬ nI 1 = 0; decide)
end Mo24
