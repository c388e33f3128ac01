/-! ===== Z: plain rows (written by mk_z.py) ===== -/
set_option maxRecDepth 100000
section ZP
variable {x : eCx} {E : eEn} {l : Launch} {Q : State → Prop} {Γ Γ2 : List va_W} {pc : Nat} {L L2 : List (Option Value)} {rest : List Value} {k n : Nat} {y : MethodName} {cc : ByteArray} {nL : Nat} {rt : Option FieldType} {rm : Room}
theorem z_iconst {i : Int} {v : Int32} (C : eOk x E l y cc nL rt rm) (d : decode cc pc = .ok (.iconst i, 1)) (hv : Int32.ofInt i = v) (kk : eZ x E Q Γ (pc + 1) L (.int v :: rest) k n) : eZ x E Q Γ pc L (rest) k n :=
  fun H locs ls hP hD hS hl => lv_iconst C.1 C.2.1 d hv (kk H locs ls hP hD hS hl)
theorem z_bipush {i : Int} {v : Int32} (C : eOk x E l y cc nL rt rm) (d : decode cc pc = .ok (.bipush i, 2)) (hv : (Int8.ofInt i).toInt32 = v) (kk : eZ x E Q Γ (pc + 2) L (.int v :: rest) k n) : eZ x E Q Γ pc L (rest) k n :=
  fun H locs ls hP hD hS hl => lv_bipush C.1 C.2.1 d hv (kk H locs ls hP hD hS hl)
theorem z_sipush {i : Int} {v : Int32} (C : eOk x E l y cc nL rt rm) (d : decode cc pc = .ok (.sipush i, 3)) (hv : (Int16.ofInt i).toInt32 = v) (kk : eZ x E Q Γ (pc + 3) L (.int v :: rest) k n) : eZ x E Q Γ pc L (rest) k n :=
  fun H locs ls hP hD hS hl => lv_sipush C.1 C.2.1 d hv (kk H locs ls hP hD hS hl)
theorem z_lconst {i : Fin 2} {v : Int64} (C : eOk x E l y cc nL rt rm) (d : decode cc pc = .ok (.lconst i, 1)) (hv : Int64.ofNat (i : Nat) = v) (kk : eZ x E Q Γ (pc + 1) L (.long v :: rest) k n) : eZ x E Q Γ pc L (rest) k n :=
  fun H locs ls hP hD hS hl => lv_lconst C.1 C.2.1 d hv (kk H locs ls hP hD hS hl)
theorem z_null  (C : eOk x E l y cc nL rt rm) (d : decode cc pc = .ok (.aconst_null, 1))  (kk : eZ x E Q Γ (pc + 1) L (.null :: rest) k n) : eZ x E Q Γ pc L (rest) k n :=
  fun H locs ls hP hD hS hl => lv_null C.1 C.2.1 d (kk H locs ls hP hD hS hl)
theorem z_ldc {own : String} {i : Nat} {v : Int32} (C : eOk x E l y cc nL rt rm) (d : decode cc pc = .ok (.ldc i, 2)) (ho : y.cls = own) (q : Cond.constant own i v ∈ lw_all) (kk : eZ x E Q Γ (pc + 2) L (.int v :: rest) k n) : eZ x E Q Γ pc L (rest) k n :=
  fun H locs ls hP hD hS hl => lv_ldc C.1 C.2.1 (own := own) (ho ▸ C.2.2.2.1) (C.2.2.2.2.1 _ q) d (kk H locs ls hP hD hS hl)
theorem z_ldcw {own : String} {i : Nat} {v : Int32} (C : eOk x E l y cc nL rt rm) (d : decode cc pc = .ok (.ldc_w i, 3)) (ho : y.cls = own) (q : Cond.constant own i v ∈ lw_all) (kk : eZ x E Q Γ (pc + 3) L (.int v :: rest) k n) : eZ x E Q Γ pc L (rest) k n :=
  fun H locs ls hP hD hS hl => lv_ldcw C.1 C.2.1 (own := own) (ho ▸ C.2.2.2.1) (C.2.2.2.2.1 _ q) d (kk H locs ls hP hD hS hl)
theorem z_ldc2 {own : String} {i : Nat} {v : Int64} (C : eOk x E l y cc nL rt rm) (d : decode cc pc = .ok (.ldc2_w i, 3)) (ho : y.cls = own) (q : Cond.constantLong own i v ∈ lw_all) (kk : eZ x E Q Γ (pc + 3) L (.long v :: rest) k n) : eZ x E Q Γ pc L (rest) k n :=
  fun H locs ls hP hD hS hl => lv_ldc2 C.1 C.2.1 (own := own) (ho ▸ C.2.2.2.1) (C.2.2.2.2.1 _ q) d (kk H locs ls hP hD hS hl)
theorem z_ldcS {own tx : String} {i a : Nat} (C : eOk x E l y cc nL rt rm) (d : decode cc pc = .ok (.ldc i, 2)) (ho : y.cls = own) (hZ : vk_R own i tx a (eSt x)) (kk : eZ x E Q Γ (pc + 2) L (.ref a :: rest) k n) : eZ x E Q Γ pc L (rest) k n :=
  fun H locs ls hP hD hS hl => va_ldcS C.1 C.2.1 (own := own) (ho ▸ C.2.2.2.1) hZ d (kk H locs ls hP hD hS hl)
theorem z_iload_n {j : Fin 4} {i : Nat} {v : Int32} (C : eOk x E l y cc nL rt rm) (d : decode cc pc = .ok (.iload_n j, 1)) (hi : (j : Nat) = i) (hL : L[i]? = some (some (.int v))) (kk : eZ x E Q Γ (pc + 1) L (.int v :: rest) k n) : eZ x E Q Γ pc L (rest) k n :=
  fun H locs ls hP hD hS hl => lv_iload_n C.1 C.2.1 d hi (hl.at hL) (kk H locs ls hP hD hS hl)
theorem z_iload {i : Nat} {v : Int32} (C : eOk x E l y cc nL rt rm) (d : decode cc pc = .ok (.iload i, 2)) (hL : L[i]? = some (some (.int v))) (kk : eZ x E Q Γ (pc + 2) L (.int v :: rest) k n) : eZ x E Q Γ pc L (rest) k n :=
  fun H locs ls hP hD hS hl => lv_iload C.1 C.2.1 d (hl.at hL) (kk H locs ls hP hD hS hl)
theorem z_aload_n {j : Fin 4} {i : Nat} {v : Nat} (C : eOk x E l y cc nL rt rm) (d : decode cc pc = .ok (.aload_n j, 1)) (hi : (j : Nat) = i) (hL : L[i]? = some (some (.ref v))) (kk : eZ x E Q Γ (pc + 1) L (.ref v :: rest) k n) : eZ x E Q Γ pc L (rest) k n :=
  fun H locs ls hP hD hS hl => lv_aload_n C.1 C.2.1 d hi (hl.at hL) (kk H locs ls hP hD hS hl)
theorem z_aload {i : Nat} {v : Nat} (C : eOk x E l y cc nL rt rm) (d : decode cc pc = .ok (.aload i, 2)) (hL : L[i]? = some (some (.ref v))) (kk : eZ x E Q Γ (pc + 2) L (.ref v :: rest) k n) : eZ x E Q Γ pc L (rest) k n :=
  fun H locs ls hP hD hS hl => lv_aload C.1 C.2.1 d (hl.at hL) (kk H locs ls hP hD hS hl)
theorem z_fload_n {j : Fin 4} {i : Nat} {v : UInt32} (C : eOk x E l y cc nL rt rm) (d : decode cc pc = .ok (.fload_n j, 1)) (hi : (j : Nat) = i) (hL : L[i]? = some (some (.float v))) (kk : eZ x E Q Γ (pc + 1) L (.float v :: rest) k n) : eZ x E Q Γ pc L (rest) k n :=
  fun H locs ls hP hD hS hl => lv_fload_n C.1 C.2.1 d hi (hl.at hL) (kk H locs ls hP hD hS hl)
theorem z_aload_nR {j : Fin 4} {i : Nat} {r : Option Nat} (C : eOk x E l y cc nL rt rm) (d : decode cc pc = .ok (.aload_n j, 1)) (hi : (j : Nat) = i) (hL : L[i]? = some (some (va_rf r))) (kk : eZ x E Q Γ (pc + 1) L (va_rf r :: rest) k n) : eZ x E Q Γ pc L (rest) k n := by
  intro H locs ls hP hD hS hl
  cases r with
  | none => exact lv_aload_nN C.1 C.2.1 d hi (hl.at hL) (kk H locs ls hP hD hS hl)
  | some a => exact lv_aload_n C.1 C.2.1 d hi (hl.at hL) (kk H locs ls hP hD hS hl)
theorem z_aloadR {i : Nat} {r : Option Nat} (C : eOk x E l y cc nL rt rm) (d : decode cc pc = .ok (.aload i, 2)) (hL : L[i]? = some (some (va_rf r))) (kk : eZ x E Q Γ (pc + 2) L (va_rf r :: rest) k n) : eZ x E Q Γ pc L (rest) k n := by
  intro H locs ls hP hD hS hl
  cases r with
  | none => exact lv_aloadN C.1 C.2.1 d (hl.at hL) (kk H locs ls hP hD hS hl)
  | some a => exact lv_aload C.1 C.2.1 d (hl.at hL) (kk H locs ls hP hD hS hl)
theorem z_istore_n {j : Fin 4} {i : Nat} {v : Int32} (C : eOk x E l y cc nL rt rm) (d : decode cc pc = .ok (.istore_n j, 1)) (hi : (j : Nat) = i) (hn : i < L.length) (hL : L.set i (some (.int v)) = L2) (kk : eZ x E Q Γ (pc + 1) L2 (rest) k n) : eZ x E Q Γ pc L (.int v :: rest) k n :=
  fun H locs ls hP hD hS hl => lv_istore_n C.1 C.2.1 d hi hl.1 hn rfl (fun ls2 h2 => kk H locs ls2 hP hD hS (hL ▸ eL.set hl.2 hn rfl h2))
theorem z_istore {i : Nat} {v : Int32} (C : eOk x E l y cc nL rt rm) (d : decode cc pc = .ok (.istore i, 2)) (hn : i < L.length) (hL : L.set i (some (.int v)) = L2) (kk : eZ x E Q Γ (pc + 2) L2 (rest) k n) : eZ x E Q Γ pc L (.int v :: rest) k n :=
  fun H locs ls hP hD hS hl => lv_istore C.1 C.2.1 d hl.1 hn rfl (fun ls2 h2 => kk H locs ls2 hP hD hS (hL ▸ eL.set hl.2 hn rfl h2))
theorem z_astore_n {j : Fin 4} {i : Nat} {v : Nat} (C : eOk x E l y cc nL rt rm) (d : decode cc pc = .ok (.astore_n j, 1)) (hi : (j : Nat) = i) (hn : i < L.length) (hL : L.set i (some (.ref v)) = L2) (kk : eZ x E Q Γ (pc + 1) L2 (rest) k n) : eZ x E Q Γ pc L (.ref v :: rest) k n :=
  fun H locs ls hP hD hS hl => lv_astore_n C.1 C.2.1 d hi hl.1 hn rfl (fun ls2 h2 => kk H locs ls2 hP hD hS (hL ▸ eL.set hl.2 hn rfl h2))
theorem z_astore {i : Nat} {v : Nat} (C : eOk x E l y cc nL rt rm) (d : decode cc pc = .ok (.astore i, 2)) (hn : i < L.length) (hL : L.set i (some (.ref v)) = L2) (kk : eZ x E Q Γ (pc + 2) L2 (rest) k n) : eZ x E Q Γ pc L (.ref v :: rest) k n :=
  fun H locs ls hP hD hS hl => lv_astore C.1 C.2.1 d hl.1 hn rfl (fun ls2 h2 => kk H locs ls2 hP hD hS (hL ▸ eL.set hl.2 hn rfl h2))
theorem z_fstore_n {j : Fin 4} {i : Nat} {v : UInt32} (C : eOk x E l y cc nL rt rm) (d : decode cc pc = .ok (.fstore_n j, 1)) (hi : (j : Nat) = i) (hn : i < L.length) (hL : L.set i (some (.float v)) = L2) (kk : eZ x E Q Γ (pc + 1) L2 (rest) k n) : eZ x E Q Γ pc L (.float v :: rest) k n :=
  fun H locs ls hP hD hS hl => lv_fstore_n C.1 C.2.1 d hi hl.1 hn rfl (fun ls2 h2 => kk H locs ls2 hP hD hS (hL ▸ eL.set hl.2 hn rfl h2))
theorem z_fstore {i : Nat} {v : UInt32} (C : eOk x E l y cc nL rt rm) (d : decode cc pc = .ok (.fstore i, 2)) (hn : i < L.length) (hL : L.set i (some (.float v)) = L2) (kk : eZ x E Q Γ (pc + 2) L2 (rest) k n) : eZ x E Q Γ pc L (.float v :: rest) k n :=
  fun H locs ls hP hD hS hl => lv_fstore C.1 C.2.1 d hl.1 hn rfl (fun ls2 h2 => kk H locs ls2 hP hD hS (hL ▸ eL.set hl.2 hn rfl h2))
theorem z_astore_nR {j : Fin 4} {i : Nat} {r : Option Nat} (C : eOk x E l y cc nL rt rm) (d : decode cc pc = .ok (.astore_n j, 1)) (hi : (j : Nat) = i) (hn : i < L.length) (hL : L.set i (some (va_rf r)) = L2) (kk : eZ x E Q Γ (pc + 1) L2 (rest) k n) : eZ x E Q Γ pc L (va_rf r :: rest) k n := by
  intro H locs ls hP hD hS hl
  cases r with
  | none => exact lv_astore_nN C.1 C.2.1 d hi hl.1 hn rfl (fun ls2 h2 => kk H locs ls2 hP hD hS (hL ▸ eL.set (v := .null) hl.2 hn rfl h2))
  | some a => exact lv_astore_n C.1 C.2.1 d hi hl.1 hn rfl (fun ls2 h2 => kk H locs ls2 hP hD hS (hL ▸ eL.set (v := .ref a) hl.2 hn rfl h2))
theorem z_astoreR {i : Nat} {r : Option Nat} (C : eOk x E l y cc nL rt rm) (d : decode cc pc = .ok (.astore i, 2)) (hn : i < L.length) (hL : L.set i (some (va_rf r)) = L2) (kk : eZ x E Q Γ (pc + 2) L2 (rest) k n) : eZ x E Q Γ pc L (va_rf r :: rest) k n := by
  intro H locs ls hP hD hS hl
  cases r with
  | none => exact lv_astoreN C.1 C.2.1 d hl.1 hn rfl (fun ls2 h2 => kk H locs ls2 hP hD hS (hL ▸ eL.set (v := .null) hl.2 hn rfl h2))
  | some a => exact lv_astore C.1 C.2.1 d hl.1 hn rfl (fun ls2 h2 => kk H locs ls2 hP hD hS (hL ▸ eL.set (v := .ref a) hl.2 hn rfl h2))
theorem z_iinc {i : Nat} {j : Int} {u v : Int32} (C : eOk x E l y cc nL rt rm) (d : decode cc pc = .ok (.iinc i j, 3)) (h0 : L[i]? = some (some (.int u))) (hv : u + Int32.ofInt j = v) (hL : L.set i (some (.int v)) = L2) (kk : eZ x E Q Γ (pc + 3) L2 (rest) k n) : eZ x E Q Γ pc L (rest) k n := by
  intro H locs ls hP hD hS hl
  have hn : i < L.length := (List.getElem?_eq_some_iff.mp h0).1
  obtain ⟨q, hq⟩ := List.getElem?_of_mem (eLl_mem.mpr h0)
  exact lv_iinc C.1 C.2.1 d hl.1 hq hv hn rfl (fun ls2 h2 => kk H locs ls2 hP hD hS (hL ▸ eL.set (v := .int v) hl.2 hn rfl h2))
theorem z_iadd {u v w : Int32} (C : eOk x E l y cc nL rt rm) (d : decode cc pc = .ok (.iadd, 1)) (hw : u + v = w) (kk : eZ x E Q Γ (pc + 1) L (.int w :: rest) k n) : eZ x E Q Γ pc L (.int v :: .int u :: rest) k n :=
  fun H locs ls hP hD hS hl => (fun q => lv_iadd C.1 C.2.1 d (hw ▸ q)) (kk H locs ls hP hD hS hl)
theorem z_isub {u v w : Int32} (C : eOk x E l y cc nL rt rm) (d : decode cc pc = .ok (.isub, 1)) (hw : u - v = w) (kk : eZ x E Q Γ (pc + 1) L (.int w :: rest) k n) : eZ x E Q Γ pc L (.int v :: .int u :: rest) k n :=
  fun H locs ls hP hD hS hl => (fun q => lv_isub C.1 C.2.1 d (hw ▸ q)) (kk H locs ls hP hD hS hl)
theorem z_imul {u v w : Int32} (C : eOk x E l y cc nL rt rm) (d : decode cc pc = .ok (.imul, 1)) (hw : u * v = w) (kk : eZ x E Q Γ (pc + 1) L (.int w :: rest) k n) : eZ x E Q Γ pc L (.int v :: .int u :: rest) k n :=
  fun H locs ls hP hD hS hl => (fun q => lv_imul C.1 C.2.1 d (hw ▸ q)) (kk H locs ls hP hD hS hl)
theorem z_iand {u v w : Int32} (C : eOk x E l y cc nL rt rm) (d : decode cc pc = .ok (.iand, 1)) (hw : u &&& v = w) (kk : eZ x E Q Γ (pc + 1) L (.int w :: rest) k n) : eZ x E Q Γ pc L (.int v :: .int u :: rest) k n :=
  fun H locs ls hP hD hS hl => (fun q => lv_iand C.1 C.2.1 d (hw ▸ q)) (kk H locs ls hP hD hS hl)
theorem z_ior {u v w : Int32} (C : eOk x E l y cc nL rt rm) (d : decode cc pc = .ok (.ior, 1)) (hw : u ||| v = w) (kk : eZ x E Q Γ (pc + 1) L (.int w :: rest) k n) : eZ x E Q Γ pc L (.int v :: .int u :: rest) k n :=
  fun H locs ls hP hD hS hl => (fun q => lv_ior C.1 C.2.1 d (hw ▸ q)) (kk H locs ls hP hD hS hl)
theorem z_ishl {u v w : Int32} (C : eOk x E l y cc nL rt rm) (d : decode cc pc = .ok (.ishl, 1)) (hw : u <<< (v &&& 31) = w) (kk : eZ x E Q Γ (pc + 1) L (.int w :: rest) k n) : eZ x E Q Γ pc L (.int v :: .int u :: rest) k n :=
  fun H locs ls hP hD hS hl => (fun q => lv_ishl C.1 C.2.1 d (hw ▸ q)) (kk H locs ls hP hD hS hl)
theorem z_ishr {u v w : Int32} (C : eOk x E l y cc nL rt rm) (d : decode cc pc = .ok (.ishr, 1)) (hw : u >>> (v &&& 31) = w) (kk : eZ x E Q Γ (pc + 1) L (.int w :: rest) k n) : eZ x E Q Γ pc L (.int v :: .int u :: rest) k n :=
  fun H locs ls hP hD hS hl => (fun q => lv_ishr C.1 C.2.1 d (hw ▸ q)) (kk H locs ls hP hD hS hl)
theorem z_idiv {u v w : Int32} (C : eOk x E l y cc nL rt rm) (d : decode cc pc = .ok (.idiv, 1)) (hne : ¬ v = 0) (hw : u / v = w) (kk : eZ x E Q Γ (pc + 1) L (.int w :: rest) k n) : eZ x E Q Γ pc L (.int v :: .int u :: rest) k n :=
  fun H locs ls hP hD hS hl => (fun q => lv_idiv C.1 C.2.1 d hne (hw ▸ q)) (kk H locs ls hP hD hS hl)
theorem z_irem {u v w : Int32} (C : eOk x E l y cc nL rt rm) (d : decode cc pc = .ok (.irem, 1)) (hne : ¬ v = 0) (hw : u - u / v * v = w) (kk : eZ x E Q Γ (pc + 1) L (.int w :: rest) k n) : eZ x E Q Γ pc L (.int v :: .int u :: rest) k n :=
  fun H locs ls hP hD hS hl => (fun q => lv_irem C.1 C.2.1 d hne (hw ▸ q)) (kk H locs ls hP hD hS hl)
theorem z_ineg {u w : Int32} (C : eOk x E l y cc nL rt rm) (d : decode cc pc = .ok (.ineg, 1)) (hw : -u = w) (kk : eZ x E Q Γ (pc + 1) L (.int w :: rest) k n) : eZ x E Q Γ pc L (.int u :: rest) k n :=
  fun H locs ls hP hD hS hl => (fun q => lv_ineg C.1 C.2.1 d (hw ▸ q)) (kk H locs ls hP hD hS hl)
theorem z_iushr {u v w : Int32} (C : eOk x E l y cc nL rt rm) (d : decode cc pc = .ok (.iushr, 1)) (hw : (u.toUInt32 >>> (v.toUInt32 &&& Int32.toUInt32 31)).toInt32 = w) (kk : eZ x E Q Γ (pc + 1) L (.int w :: rest) k n) : eZ x E Q Γ pc L (.int v :: .int u :: rest) k n :=
  fun H locs ls hP hD hS hl => lv_iushr C.1 C.2.1 d hw (kk H locs ls hP hD hS hl)
theorem z_i2l {u : Int32} {v : Int64} (C : eOk x E l y cc nL rt rm) (d : decode cc pc = .ok (.i2l, 1)) (hw : u.toInt64 = v) (kk : eZ x E Q Γ (pc + 1) L (.long v :: rest) k n) : eZ x E Q Γ pc L (.int u :: rest) k n :=
  fun H locs ls hP hD hS hl => lv_i2l C.1 C.2.1 d hw (kk H locs ls hP hD hS hl)
theorem z_i2b {u v : Int32} (C : eOk x E l y cc nL rt rm) (d : decode cc pc = .ok (.i2b, 1)) (hw : u.toInt8.toInt32 = v) (kk : eZ x E Q Γ (pc + 1) L (.int v :: rest) k n) : eZ x E Q Γ pc L (.int u :: rest) k n :=
  fun H locs ls hP hD hS hl => lv_i2b C.1 C.2.1 d hw (kk H locs ls hP hD hS hl)
theorem z_i2c {u v : Int32} (C : eOk x E l y cc nL rt rm) (d : decode cc pc = .ok (.i2c, 1)) (hw : (u.toUInt32 % 65536).toInt32 = v) (kk : eZ x E Q Γ (pc + 1) L (.int v :: rest) k n) : eZ x E Q Γ pc L (.int u :: rest) k n :=
  fun H locs ls hP hD hS hl => lv_i2c C.1 C.2.1 d hw (kk H locs ls hP hD hS hl)
theorem z_dup {v : Value} (C : eOk x E l y cc nL rt rm) (d : decode cc pc = .ok (.dup, 1)) (hv : v.category = 1) (kk : eZ x E Q Γ (pc + 1) L (v :: v :: rest) k n) : eZ x E Q Γ pc L (v :: rest) k n :=
  fun H locs ls hP hD hS hl => lv_dup C.1 C.2.1 d hv (kk H locs ls hP hD hS hl)
theorem z_pop {v : Value} (C : eOk x E l y cc nL rt rm) (d : decode cc pc = .ok (.pop, 1)) (hv : v.category = 1) (kk : eZ x E Q Γ (pc + 1) L (rest) k n) : eZ x E Q Γ pc L (v :: rest) k n :=
  fun H locs ls hP hD hS hl => lv_pop C.1 C.2.1 d hv (kk H locs ls hP hD hS hl)
theorem z_dup_x1 {u v : Value} (C : eOk x E l y cc nL rt rm) (d : decode cc pc = .ok (.dup_x1, 1)) (hu : u.category = 1) (hv : v.category = 1) (kk : eZ x E Q Γ (pc + 1) L (u :: v :: u :: rest) k n) : eZ x E Q Γ pc L (u :: v :: rest) k n :=
  fun H locs ls hP hD hS hl => lv_dup_x1 C.1 C.2.1 d hu hv (kk H locs ls hP hD hS hl)
theorem z_dup_x2 {u v w : Value} (C : eOk x E l y cc nL rt rm) (d : decode cc pc = .ok (.dup_x2, 1)) (hu : u.category = 1) (hv : v.category = 1) (hw : w.category = 1) (kk : eZ x E Q Γ (pc + 1) L (u :: v :: w :: u :: rest) k n) : eZ x E Q Γ pc L (u :: v :: w :: rest) k n :=
  fun H locs ls hP hD hS hl => lv_dup_x2 C.1 C.2.1 d hu hv hw (kk H locs ls hP hD hS hl)
theorem z_dup2 {u v : Value} (C : eOk x E l y cc nL rt rm) (d : decode cc pc = .ok (.dup2, 1)) (hu : u.category = 1) (hv : v.category = 1) (kk : eZ x E Q Γ (pc + 1) L (u :: v :: u :: v :: rest) k n) : eZ x E Q Γ pc L (u :: v :: rest) k n :=
  fun H locs ls hP hD hS hl => lv_dup2_11 C.1 C.2.1 d hu hv (kk H locs ls hP hD hS hl)
theorem z_if_eq {u : Int32} {off : Int} (tgt : Nat) (C : eOk x E l y cc nL rt rm) (d : decode cc pc = .ok (.ifCond .eq off, 3)) (ht : (pc : Int) + off = (tgt : Int)) (kt : u = 0 → eZ x E Q Γ tgt L (rest) k n) (kf : ¬ u = 0 → eZ x E Q Γ (pc + 3) L (rest) k n) : eZ x E Q Γ pc L (.int u :: rest) k n :=
  fun H locs ls hP hD hS hl => lv_if_eq C.1 C.2.1 d ht (fun h => kt h H locs ls hP hD hS hl) (fun h => kf h H locs ls hP hD hS hl)
theorem z_icmp_eq {u v : Int32} {off : Int} (tgt : Nat) (C : eOk x E l y cc nL rt rm) (d : decode cc pc = .ok (.if_icmp .eq off, 3)) (ht : (pc : Int) + off = (tgt : Int)) (kt : u = v → eZ x E Q Γ tgt L (rest) k n) (kf : ¬ u = v → eZ x E Q Γ (pc + 3) L (rest) k n) : eZ x E Q Γ pc L (.int v :: .int u :: rest) k n :=
  fun H locs ls hP hD hS hl => lv_icmp_eq C.1 C.2.1 d ht (fun h => kt h H locs ls hP hD hS hl) (fun h => kf h H locs ls hP hD hS hl)
theorem z_if_ne {u : Int32} {off : Int} (tgt : Nat) (C : eOk x E l y cc nL rt rm) (d : decode cc pc = .ok (.ifCond .ne off, 3)) (ht : (pc : Int) + off = (tgt : Int)) (kt : ¬ u = 0 → eZ x E Q Γ tgt L (rest) k n) (kf : u = 0 → eZ x E Q Γ (pc + 3) L (rest) k n) : eZ x E Q Γ pc L (.int u :: rest) k n :=
  fun H locs ls hP hD hS hl => lv_if_ne C.1 C.2.1 d ht (fun h => kt h H locs ls hP hD hS hl) (fun h => kf h H locs ls hP hD hS hl)
theorem z_icmp_ne {u v : Int32} {off : Int} (tgt : Nat) (C : eOk x E l y cc nL rt rm) (d : decode cc pc = .ok (.if_icmp .ne off, 3)) (ht : (pc : Int) + off = (tgt : Int)) (kt : ¬ u = v → eZ x E Q Γ tgt L (rest) k n) (kf : u = v → eZ x E Q Γ (pc + 3) L (rest) k n) : eZ x E Q Γ pc L (.int v :: .int u :: rest) k n :=
  fun H locs ls hP hD hS hl => lv_icmp_ne C.1 C.2.1 d ht (fun h => kt h H locs ls hP hD hS hl) (fun h => kf h H locs ls hP hD hS hl)
theorem z_if_lt {u : Int32} {off : Int} (tgt : Nat) (C : eOk x E l y cc nL rt rm) (d : decode cc pc = .ok (.ifCond .lt off, 3)) (ht : (pc : Int) + off = (tgt : Int)) (kt : u < 0 → eZ x E Q Γ tgt L (rest) k n) (kf : ¬ u < 0 → eZ x E Q Γ (pc + 3) L (rest) k n) : eZ x E Q Γ pc L (.int u :: rest) k n :=
  fun H locs ls hP hD hS hl => lv_if_lt C.1 C.2.1 d ht (fun h => kt h H locs ls hP hD hS hl) (fun h => kf h H locs ls hP hD hS hl)
theorem z_icmp_lt {u v : Int32} {off : Int} (tgt : Nat) (C : eOk x E l y cc nL rt rm) (d : decode cc pc = .ok (.if_icmp .lt off, 3)) (ht : (pc : Int) + off = (tgt : Int)) (kt : u < v → eZ x E Q Γ tgt L (rest) k n) (kf : ¬ u < v → eZ x E Q Γ (pc + 3) L (rest) k n) : eZ x E Q Γ pc L (.int v :: .int u :: rest) k n :=
  fun H locs ls hP hD hS hl => lv_icmp_lt C.1 C.2.1 d ht (fun h => kt h H locs ls hP hD hS hl) (fun h => kf h H locs ls hP hD hS hl)
theorem z_if_ge {u : Int32} {off : Int} (tgt : Nat) (C : eOk x E l y cc nL rt rm) (d : decode cc pc = .ok (.ifCond .ge off, 3)) (ht : (pc : Int) + off = (tgt : Int)) (kt : 0 ≤ u → eZ x E Q Γ tgt L (rest) k n) (kf : ¬ 0 ≤ u → eZ x E Q Γ (pc + 3) L (rest) k n) : eZ x E Q Γ pc L (.int u :: rest) k n :=
  fun H locs ls hP hD hS hl => lv_if_ge C.1 C.2.1 d ht (fun h => kt h H locs ls hP hD hS hl) (fun h => kf h H locs ls hP hD hS hl)
theorem z_icmp_ge {u v : Int32} {off : Int} (tgt : Nat) (C : eOk x E l y cc nL rt rm) (d : decode cc pc = .ok (.if_icmp .ge off, 3)) (ht : (pc : Int) + off = (tgt : Int)) (kt : v ≤ u → eZ x E Q Γ tgt L (rest) k n) (kf : ¬ v ≤ u → eZ x E Q Γ (pc + 3) L (rest) k n) : eZ x E Q Γ pc L (.int v :: .int u :: rest) k n :=
  fun H locs ls hP hD hS hl => lv_icmp_ge C.1 C.2.1 d ht (fun h => kt h H locs ls hP hD hS hl) (fun h => kf h H locs ls hP hD hS hl)
theorem z_if_gt {u : Int32} {off : Int} (tgt : Nat) (C : eOk x E l y cc nL rt rm) (d : decode cc pc = .ok (.ifCond .gt off, 3)) (ht : (pc : Int) + off = (tgt : Int)) (kt : 0 < u → eZ x E Q Γ tgt L (rest) k n) (kf : ¬ 0 < u → eZ x E Q Γ (pc + 3) L (rest) k n) : eZ x E Q Γ pc L (.int u :: rest) k n :=
  fun H locs ls hP hD hS hl => lv_if_gt C.1 C.2.1 d ht (fun h => kt h H locs ls hP hD hS hl) (fun h => kf h H locs ls hP hD hS hl)
theorem z_icmp_gt {u v : Int32} {off : Int} (tgt : Nat) (C : eOk x E l y cc nL rt rm) (d : decode cc pc = .ok (.if_icmp .gt off, 3)) (ht : (pc : Int) + off = (tgt : Int)) (kt : v < u → eZ x E Q Γ tgt L (rest) k n) (kf : ¬ v < u → eZ x E Q Γ (pc + 3) L (rest) k n) : eZ x E Q Γ pc L (.int v :: .int u :: rest) k n :=
  fun H locs ls hP hD hS hl => lv_icmp_gt C.1 C.2.1 d ht (fun h => kt h H locs ls hP hD hS hl) (fun h => kf h H locs ls hP hD hS hl)
theorem z_if_le {u : Int32} {off : Int} (tgt : Nat) (C : eOk x E l y cc nL rt rm) (d : decode cc pc = .ok (.ifCond .le off, 3)) (ht : (pc : Int) + off = (tgt : Int)) (kt : u ≤ 0 → eZ x E Q Γ tgt L (rest) k n) (kf : ¬ u ≤ 0 → eZ x E Q Γ (pc + 3) L (rest) k n) : eZ x E Q Γ pc L (.int u :: rest) k n :=
  fun H locs ls hP hD hS hl => lv_if_le C.1 C.2.1 d ht (fun h => kt h H locs ls hP hD hS hl) (fun h => kf h H locs ls hP hD hS hl)
theorem z_icmp_le {u v : Int32} {off : Int} (tgt : Nat) (C : eOk x E l y cc nL rt rm) (d : decode cc pc = .ok (.if_icmp .le off, 3)) (ht : (pc : Int) + off = (tgt : Int)) (kt : u ≤ v → eZ x E Q Γ tgt L (rest) k n) (kf : ¬ u ≤ v → eZ x E Q Γ (pc + 3) L (rest) k n) : eZ x E Q Γ pc L (.int v :: .int u :: rest) k n :=
  fun H locs ls hP hD hS hl => lv_icmp_le C.1 C.2.1 d ht (fun h => kt h H locs ls hP hD hS hl) (fun h => kf h H locs ls hP hD hS hl)
theorem z_acmp_eq {r s : Option Nat} {off : Int} (tgt : Nat) (C : eOk x E l y cc nL rt rm) (d : decode cc pc = .ok (.if_acmp .eq off, 3)) (ht : (pc : Int) + off = (tgt : Int)) (kt : r = s → eZ x E Q Γ tgt L (rest) k n) (kf : ¬ r = s → eZ x E Q Γ (pc + 3) L (rest) k n) : eZ x E Q Γ pc L (va_rf s :: va_rf r :: rest) k n :=
  fun H locs ls hP hD hS hl => lv_acmp_eq C.1 C.2.1 d ht (fun h => kt h H locs ls hP hD hS hl) (fun h => kf h H locs ls hP hD hS hl)
theorem z_acmp_ne {r s : Option Nat} {off : Int} (tgt : Nat) (C : eOk x E l y cc nL rt rm) (d : decode cc pc = .ok (.if_acmp .ne off, 3)) (ht : (pc : Int) + off = (tgt : Int)) (kt : ¬ r = s → eZ x E Q Γ tgt L (rest) k n) (kf : r = s → eZ x E Q Γ (pc + 3) L (rest) k n) : eZ x E Q Γ pc L (va_rf s :: va_rf r :: rest) k n :=
  fun H locs ls hP hD hS hl => lv_acmp_ne C.1 C.2.1 d ht (fun h => kt h H locs ls hP hD hS hl) (fun h => kf h H locs ls hP hD hS hl)
theorem z_ifnull {r : Option Nat} {off : Int} (tgt : Nat) (C : eOk x E l y cc nL rt rm) (d : decode cc pc = .ok (.ifnull off, 3)) (ht : (pc : Int) + off = (tgt : Int)) (kt : r = none → eZ x E Q Γ tgt L (rest) k n) (kf : ∀ a, r = some a → eZ x E Q Γ (pc + 3) L (rest) k n) : eZ x E Q Γ pc L (va_rf r :: rest) k n := by
  intro H locs ls hP hD hS hl
  cases r with
  | none => exact lv_ifnullN C.1 C.2.1 d ht (kt rfl H locs ls hP hD hS hl)
  | some a => exact lv_ifnull C.1 C.2.1 d (kf a rfl H locs ls hP hD hS hl)
theorem z_ifnonnull {r : Option Nat} {off : Int} (tgt : Nat) (C : eOk x E l y cc nL rt rm) (d : decode cc pc = .ok (.ifnonnull off, 3)) (ht : (pc : Int) + off = (tgt : Int)) (kt : ∀ a, r = some a → eZ x E Q Γ tgt L (rest) k n) (kf : r = none → eZ x E Q Γ (pc + 3) L (rest) k n) : eZ x E Q Γ pc L (va_rf r :: rest) k n := by
  intro H locs ls hP hD hS hl
  cases r with
  | none => exact lv_ifnonnullN C.1 C.2.1 d (kf rfl H locs ls hP hD hS hl)
  | some a => exact lv_ifnonnull C.1 C.2.1 d ht (kt a rfl H locs ls hP hD hS hl)
theorem z_goto {off : Int} (tgt : Nat) (C : eOk x E l y cc nL rt rm) (d : decode cc pc = .ok (.goto off, 3)) (ht : (pc : Int) + off = (tgt : Int)) (kk : eZ x E Q Γ tgt L (rest) k n) : eZ x E Q Γ pc L (rest) k n :=
  fun H locs ls hP hD hS hl => lv_goto C.1 C.2.1 d ht (kk H locs ls hP hD hS hl)
theorem z_tabIn {lo hi dflt off : Int} {offs : Array Int} {len : Nat} {u : Int32} (tgt : Nat) (C : eOk x E l y cc nL rt rm) (d : decode cc pc = .ok (.tableswitch dflt lo hi offs, len)) (h1 : ¬ u.toInt < lo) (h2 : ¬ hi < u.toInt) (ho : offs[(u.toInt - lo).toNat]? = some off) (ht : (pc : Int) + off = (tgt : Int)) (kk : eZ x E Q Γ tgt L (rest) k n) : eZ x E Q Γ pc L (.int u :: rest) k n :=
  fun H locs ls hP hD hS hl => lv_tableIn C.1 C.2.1 d h1 h2 ho ht (kk H locs ls hP hD hS hl)
theorem z_tabOut {lo hi dflt : Int} {offs : Array Int} {len : Nat} {u : Int32} (tgt : Nat) (C : eOk x E l y cc nL rt rm) (d : decode cc pc = .ok (.tableswitch dflt lo hi offs, len)) (h : u.toInt < lo ∨ hi < u.toInt) (ht : (pc : Int) + dflt = (tgt : Int)) (kk : eZ x E Q Γ tgt L (rest) k n) : eZ x E Q Γ pc L (.int u :: rest) k n :=
  fun H locs ls hP hD hS hl => lv_tableOut C.1 C.2.1 d h ht (kk H locs ls hP hD hS hl)
theorem z_lookup {dflt off : Int} {ps : Array (Int × Int)} {len : Nat} {u : Int32} (tgt : Nat) (C : eOk x E l y cc nL rt rm) (d : decode cc pc = .ok (.lookupswitch dflt ps, len)) (hp : (ps.toList.zip (ps.toList.drop 1)).all (fun (a, next) => a.1 < next.1) = true) (ho : Op.lookupswitch.offset ps.toList dflt u.toInt = off) (ht : (pc : Int) + off = (tgt : Int)) (kk : eZ x E Q Γ tgt L (rest) k n) : eZ x E Q Γ pc L (.int u :: rest) k n :=
  fun H locs ls hP hD hS hl => lv_lookup C.1 C.2.1 d hp ho ht (kk H locs ls hP hD hS hl)
end ZP
