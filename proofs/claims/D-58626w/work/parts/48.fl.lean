/-! ===== floats ===== -/
set_option maxRecDepth 100000
section ZFL
variable {x : eCx} {E : eEn} {l : Launch} {Q : State → Prop} {Γ : List va_W} {pc : Nat} {L : List (Option Value)} {rest : List Value} {k n : Nat} {y : MethodName} {cc : ByteArray} {nL : Nat} {rt : Option FieldType} {rm : Room}
theorem z_i2f {v : Int32} (C : eOk x E l y cc nL rt rm) (d : decode cc pc = .ok (.i2f, 1)) (kk : eZ x E Q Γ (pc + 1) L (.float (FP.i2f v) :: rest) k n) : eZ x E Q Γ pc L (.int v :: rest) k n :=
  fun H locs ls hP hD hS hl => lv_i2f C.1 C.2.1 d (kk H locs ls hP hD hS hl)
theorem z_fdiv {u v : UInt32} (C : eOk x E l y cc nL rt rm) (d : decode cc pc = .ok (.fdiv, 1)) (hne : vf_n32 (FP.fdiv u v)) (kk : eZ x E Q Γ (pc + 1) L (.float (FP.fdiv u v) :: rest) k n) : eZ x E Q Γ pc L (.float v :: .float u :: rest) k n :=
  fun H locs ls hP hD hS hl => lv_fdiv C.1 C.2.1 d hne (kk H locs ls hP hD hS hl)
theorem z_fcmp {u v : UInt32} {op : CmpOp} (C : eOk x E l y cc nL rt rm) (d : decode cc pc = .ok (.fcmp op, 1)) (kk : eZ x E Q Γ (pc + 1) L (.int (Op.cmpValue (FP.fcmp u v) op) :: rest) k n) : eZ x E Q Γ pc L (.float v :: .float u :: rest) k n :=
  fun H locs ls hP hD hS hl => lv_fcmp C.1 C.2.1 d (kk H locs ls hP hD hS hl)
theorem z_f2i {b : UInt32} (C : eOk x E l y cc nL rt rm) (hL0 : L.length = nL) (d : decode cc pc = .ok (.invokestatic 74, 3)) (ho : y.cls = "java/lang/Float") (hfr : 1 ≤ rm.frames) (hlo : (rest.map fun v => v.category).sum + 15 ≤ rm.locals) (kk : eZ x E Q Γ (pc + 3) L (.int b.toInt32 :: rest) k n) : eZ x E Q Γ pc L (.float b :: rest) k n := by
  intro H locs ls hP hD hS hl
  have hR := C.2.2.2.2.2.2.2.2.1
  have hown : (eSt x).vm.findClass "java/lang/Float" = some (eMi x).cls := by have h := C.2.2.2.1; rw [ho] at h; exact h
  have hts := C.2.2.2.2.1
  exact vn_f2i C.1 C.2.1 (by show (eCo x).maxLocals = _; rw [C.2.2.1, hl.1.1, hL0]) hown (hts _ q1442) (hts _ q1444) (hts _ q1443) (hts _ q90) (by show 1 ≤ (eRo x).frames; rw [hR]; exact hfr) (by show _ ≤ (eRo x).locals; rw [hR]; exact hlo) d (kk H locs ls hP hD hS hl)
end ZFL
