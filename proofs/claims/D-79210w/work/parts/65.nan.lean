set_option maxRecDepth 100000
def finN (d : Jvm.FP.Core.Datum) : Bool := match d with
  | .fin _ c _ => !(c == 0)
  | _ => false
theorem fin32 : ∀ b : Nat, b < 1000 → 0 < b → finN (Jvm.FP.Core.decode Jvm.FP.Core.b32 (Jvm.FP.Core.fromInt Jvm.FP.Core.b32 (b : Int))) = true := by decide +kernel
theorem fin64 : ∀ b : Nat, b < 20 → 0 < b → finN (Jvm.FP.Core.decode Jvm.FP.Core.b64 (Jvm.FP.Core.fromInt Jvm.FP.Core.b64 (b : Int))) = true := by decide +kernel
