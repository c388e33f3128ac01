/-! ===== clone() of an int array (the row va_clone of the kit, with the new heap told) ===== -/
set_option maxRecDepth 100000
section CLN
variable {p : Program} {l : Launch} {e : Env} {R : Room} {s : State} {m : MethodId} {args : Array Value} {below : List Frame} {meth : Method} {c : Code} {H : Heap} {locs : List Loc} {cells slots : Nat} {Q : State → Prop}
variable {cc : ByteArray} {pc : Nat} {ls : Array Slot} {rest : List Value} {D : va_G} {cl : List vw_C} {a : Nat} {tys : List (ClassId × FieldType)} {ws : va_W}
theorem eClone (hexec : p.tables.exec = Jvm.exec) (hb : c.code = cc) (hml : c.maxLocals = ls.size) {own ad : String} {index : Nat} (hown : s.vm.findClass own = some m.cls)
    (hlink : (Cond.methodLink own index ⟨ad, "clone", "()Ljava/lang/Object;"⟩).before args s = true) (hsame : (Cond.sameMethod ad "java/lang/Object" "clone" "()Ljava/lang/Object;").before args s = true)
    (hnat : (Cond.native ⟨"java/lang/Object", "clone", "()Ljava/lang/Object;"⟩).before args s = true) (hinst : (Cond.instanceMethod ⟨"java/lang/Object", "clone", "()Ljava/lang/Object;"⟩).before args s = true)
    (hsel : (Cond.selects ad ⟨ad, "clone", "()Ljava/lang/Object;"⟩ ⟨"java/lang/Object", "clone", "()Ljava/lang/Object;"⟩).before args s = true) (hcl : va_Nw (.castable ad "java/lang/Cloneable") s)
    (hK : va_K D cl tys s) (hP : va_P D cl ws H) (q0 t0 : Nat) {cA : ClassId} {x : vp_A} {ty : FieldType} (ha : ws[q0]? = some (a, .inl (cA, x))) (ht : tys[t0]? = some (cA, ty))
    (hnm : s.vm.findClass ad = some cA) (hfit : ∀ (i : Nat) (v : Value), (vp_cell cA x).slots[i]? = some v → fits ty v = true)
    (hframes : 1 ≤ R.frames) (hlocals : (rest.map fun v => v.category).sum + 14 ≤ R.locals) (hcells : cells + 1 ≤ R.cells) (hslots : slots + x.1 ≤ R.slots) (hdg : decode cc pc = .ok (.invokevirtual index, 3))
    (kk : W p l e R s m args below meth c (H.push (vp_cell cA x)) locs (cells + 1) (slots + x.1) Q (F0 m (pc + 3) ls (.ref H.size :: rest))) : W p l e R s m args below meth c H locs cells slots Q (F0 m pc ls (.ref a :: rest)) := by
  have hsz : (vp_cell cA x).slots.size = x.1 := by
    obtain ⟨n, f | f | f | f | f⟩ := x <;> exact arrV_size _ _ _
  have hvm0 : (vp_cell cA x).vm = .none := by
    obtain ⟨n, f | f | f | f | f⟩ := x <;> rfl
  have hcl0 : (vp_cell cA x).cls = cA := by
    obtain ⟨n, f | f | f | f | f⟩ := x <;> rfl
  have hcellE : ({ cls := (vp_cell cA x).cls, slots := (vp_cell cA x).slots } : Cell) = vp_cell cA x := by
    obtain ⟨n, f | f | f | f | f⟩ := x <;> rfl
  obtain ⟨c0, t0', f1, f2, f3⟩ := Cond.castable_spec (va_Nw.use (A := args) rfl hcl)
  cases hnm.symm.trans f1
  intro T hT X
  have hcellT : T.heap[a]? = some (vp_cell cA x) := by rw [hT]; exact hP q0 _ ha
  obtain ⟨-, kA, hkA, comp, hkind⟩ := State.isArrayOf_alike X.warmed.alike ((hK.2 t0 _ ht).1 0 (fun _ => .null))
  obtain ⟨-, kS, hkS, compS, hkindS⟩ := (hK.2 t0 _ ht).1 0 (fun _ => .null)
  obtain ⟨vm', X', st⟩ := X.cloneArray hexec hown hlink hsame hnat hinst hsel (a := a) (cell := vp_cell cA x) hcellT (fun k h => by rw [hvm0] at h; cases h) (by rw [hvm0]; exact fun h => by cases h) (by rw [hcl0]; exact hnm) f2 (by rw [hcl0]; exact f3)
    (fun i v hv => by
      rw [hcl0]
      have hk' : T.vm.classes[cA]? = some kA := hkA
      simpa [State.fitsSlot, State.slotType?, hk', hkind] using hfit i v hv)
    (g := F0 m pc ls (.ref a :: rest)) rfl (by rw [hml]) rfl (by rw [hb]; exact hdg) hframes (by show 2 * 0 + _ + 14 ≤ _; omega) hcells (by rw [hsz]; exact hslots) (hloader := by rw [hcl0]; exact Vm.clonesLoader_of_array hkS hkindS)
  rw [hcellE, hsz] at X'
  obtain ⟨t, b1, b2⟩ := kk ((T.setVm vm').pushCell (vp_cell cA x)) (by rw [← hT]; rfl) X'
  refine ⟨t, st t ?_, b2⟩
  rw [hcellE, hT]
  exact b1
end CLN
section ZCL
variable {x : eCx} {E : eEn} {l : Launch} {Q : State → Prop} {Γ : List va_W} {pc : Nat} {L : List (Option Value)} {rest : List Value} {k n : Nat} {y : MethodName} {cc : ByteArray} {nL : Nat} {rt : Option FieldType} {rm : Room}
theorem z_clone {a m : Nat} {f : Nat → Int32} (i : Nat) (C : eOk x E l y cc nL rt rm) (hL0 : L.length = nL) (d : decode cc pc = .ok (.invokevirtual 44, 3)) (ho : y.cls = RX1) (hΓ : Γ[i]? = some (eIA E a m f)) (hfr : 1 ≤ rm.frames) (hlo : (rest.map fun v => v.category).sum + 14 ≤ rm.locals) (h1 : k + 1 ≤ rm.cells) (h2 : n + m ≤ rm.slots)
    (kk : ∀ q : Nat, eZ x E Q (Γ ++ [eIA E q m f]) (pc + 3) L (.ref q :: rest) (k + 1) (n + m)) : eZ x E Q Γ pc L (.ref a :: rest) k n := by
  intro H locs ls hP hD hS hl
  have hR := C.2.2.2.2.2.2.2.2.1
  have hK := C.2.2.2.2.2.2.2.1.1
  have hown : (eSt x).vm.findClass "EggLights$Machine" = some (eMi x).cls := by have h := C.2.2.2.1; rw [ho] at h; exact h
  have hts := C.2.2.2.2.1
  have hcast : va_Nw (.castable "[I" "java/lang/Cloneable") (eSt x) := C.2.2.2.2.2.2.2.1.2.2.1 _ (eNw_in q427 rfl)
  obtain ⟨i0, g1, g2⟩ := eBlk hΓ
  refine eClone (own := "EggLights$Machine") (ad := "[I") C.1 C.2.1 (by show (eCo x).maxLocals = _; rw [C.2.2.1, hl.1.1, hL0]) hown (hts _ q422) (hts _ q423) (hts _ q424) (hts _ q425) (hts _ q426) hcast hK hP.1 i0 0 (cA := E.2.1 0) (x := (m, .inl f)) (ty := .int) g1 rfl (hK.2 0 _ rfl).2 (fun j v hv => va_fit (n := m) (F := fun j => .int (f j)) (fun _ _ => rfl) j v hv) (by show 1 ≤ (eRo x).frames; rw [hR]; exact hfr) (by show _ ≤ (eRo x).locals; rw [hR]; exact hlo) (by show _ ≤ (eRo x).cells; rw [hR]; exact h1) (by show n + m ≤ (eRo x).slots; rw [hR]; exact h2) d ?_
  have e1 : (H.push (vp_cell (E.2.1 0) (m, .inl f)))[H.size]? = some (vp_cell (E.2.1 0) (m, .inl f)) := Array.getElem?_push_size
  have o1 : ∀ q : Nat, q < H.size → (H.push (vp_cell (E.2.1 0) (m, .inl f)))[q]? = H[q]? := fun q hq => by rw [Array.getElem?_push, if_neg (Nat.ne_of_lt hq)]
  have hP1 := eP_push (E := E) (e := .inl (E.2.1 0, m, .inl f)) hP rfl e1 (eFr.of e1 rfl rfl) o1
  have hD1 := hD.push (e := .inl (E.2.1 0, m, .inl f)) hP.1 rfl (C.2.2.2.2.2.2.2.1.2.1 _ hS.1)
  rw [show Γ.flatten ++ [(H.size, (.inl (E.2.1 0, m, .inl f) : va_E))] = (Γ ++ [eIA E H.size m f]).flatten by simp] at hP1 hD1
  exact kk H.size _ locs ls hP1 hD1 ⟨Nat.le_trans hS.1 (by rw [Array.size_push]; omega), fun z g1 g2 => (o1 z (Nat.lt_of_lt_of_le g1 hS.1)).trans (hS.2.1 z g1 g2), hS.2.2⟩ hl
/-- a cast of an int array to its class -/
theorem z_castA {a m idx : Nat} {f : Nat → Int32} {own : String} (i : Nat) (C : eOk x E l y cc nL rt rm) (d : decode cc pc = .ok (.checkcast idx, 3)) (hΓ : Γ[i]? = some (eIA E a m f)) (ho : y.cls = own) (q : Cond.classLink own idx "[I" ∈ lw_all)
    (kk : eZ x E Q Γ (pc + 3) L (.ref a :: rest) k n) : eZ x E Q Γ pc L (.ref a :: rest) k n := by
  intro H locs ls hP hD hS hl
  have hK := C.2.2.2.2.2.2.2.1.1
  obtain ⟨i0, g1, g2⟩ := eBlk hΓ
  exact va_castA C.1 C.2.1 (own := own) (nm := "[I") (ho ▸ C.2.2.2.1) (C.2.2.2.2.1 _ q) hP.1 i0 (cA := E.2.1 0) (x := (m, .inl f)) g1 (hK.2 0 _ rfl).2 d (kk H locs ls hP hD hS hl)
end ZCL
