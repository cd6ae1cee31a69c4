/-! MY ROWS 11: every word that the five exceptions ask lies in the tables (slow: some 60 s) -/
set_option maxRecDepth 100000
def x_At : List Cond := Bundle.messageArmAtoms "java/lang/NegativeArraySizeException" ["java/lang/RuntimeException", "java/lang/Exception"] ++ Bundle.messageArmAtoms "java/lang/ArrayIndexOutOfBoundsException" ["java/lang/IndexOutOfBoundsException", "java/lang/RuntimeException", "java/lang/Exception"] ++ Bundle.messageArmAtoms "java/lang/ArithmeticException" ["java/lang/RuntimeException", "java/lang/Exception"] ++ Bundle.messageArmAtoms "java/lang/ClassCastException" ["java/lang/RuntimeException", "java/lang/Exception"] ++ Bundle.npeArmAtoms 8
theorem x_At_all : x_At.all (fun a => lw_all.contains a || exD.contains a || exS.contains a) = true := by decide +kernel
theorem gEx.at {s : State} {args : Array Value} (h : gEx s) (hts : ∀ w ∈ lw_all, w.before args s = true) : ∀ a ∈ x_At, a.before args s = true := h.of hts x_At_all
