/-! the words that the machine's own exceptions ask for are in the tables -/
set_option maxRecDepth 100000
/-- words that are no table's -/
def am_xk (w : Jvm.Cond) : Bool := match w with
  | .castable a b => decide ((a, b) ∈ am_xc)
  | .declares x => decide (x ∈ am_xd)
  | .laysStatic a b c => decide ((a, b, c) ∈ am_xl)
  | .isRef (.static a b c) => decide ((a, b, c) ∈ am_xl)
  | _ => false
theorem am_npeW : (Bundle.npeArmAtoms 8).all (fun w => decide (w ∈ lw_all) || am_xk w) = true := by decide +kernel
def am_nms (t : Int) : List String := if t = 61 then ["java/lang/IndexOutOfBoundsException", "java/lang/RuntimeException", "java/lang/Exception"] else ["java/lang/RuntimeException", "java/lang/Exception"]
theorem am_msgW_61 : (Bundle.messageArmAtoms (am_xn 61) (am_nms 61)).all (fun w => decide (w ∈ lw_all) || am_xk w) = true := by decide +kernel
theorem am_msgW_63 : (Bundle.messageArmAtoms (am_xn 63) (am_nms 63)).all (fun w => decide (w ∈ lw_all) || am_xk w) = true := by decide +kernel
theorem am_msgW_64 : (Bundle.messageArmAtoms (am_xn 64) (am_nms 64)).all (fun w => decide (w ∈ lw_all) || am_xk w) = true := by decide +kernel
