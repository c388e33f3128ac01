/-! ===== System.arraycopy of bytes (the row va_copyi of the kit, with the new heap told); calls of a method of the class above ===== -/
set_option maxRecDepth 100000
section CPY
variable {p : Program} {l : Launch} {e : Env} {R : Room} {s : State} {m : MethodId} {args : Array Value} {below : List Frame} {meth : Method} {c : Code} {H : Heap} {locs : List Loc} {cells slots : Nat} {Q : State → Prop}
variable {cc : ByteArray} {pc : Nat} {ls : Array Slot} {rest : List Value} {D : va_G} {cl : List vw_C} {A : Nat → Prop} {a : Nat} {tys : List (ClassId × FieldType)} {ws : va_W} {H0 : Heap}
theorem eCopy {cc : ByteArray} (hexec : p.tables.exec = Jvm.exec) (hb : c.code = cc) (hml : c.maxLocals = ls.size) {own : String} {index : Nat} (hown : s.vm.findClass own = some m.cls) (hlink : (Cond.methodLink own index arraycopyName).before args s = true) (hnat : (Cond.native arraycopyName).before args s = true) (hstat : (Cond.static arraycopyName).before args s = true) (hini : (Cond.initialized "java/lang/System").before args s = true)
    (hK : va_K D cl tys s) (hP : va_P D cl ws H) (hD : va_D A ws) (hS : va_S A H0 H locs) (q0 q1 t0 t1 : Nat) {a0 : Nat} {c0 c1 : ClassId} {n0 n1 : Nat} {f g : Nat → Int32} {ty : FieldType} (ha0 : ws[q0]? = some (a0, .inl (c0, n0, .inl f))) (ha1 : ws[q1]? = some (a, .inl (c1, n1, .inl g))) (ht0 : tys[t0]? = some (c0, ty)) (ht1 : tys[t1]? = some (c1, ty)) (hprim : refKind ty = false)
    {sp dp n : Int32} (h1 : ¬ sp < 0) (h2 : ¬ dp < 0) (h3 : ¬ n < 0) (h4 : sp.toNatClampNeg + n.toNatClampNeg ≤ n0) (h5 : dp.toNatClampNeg + n.toNatClampNeg ≤ n1) (hfit : ∀ i, i < n.toNatClampNeg → fits ty (.int (f (sp.toNatClampNeg + i))) = true)
    (hframes : 1 ≤ R.frames) (hlocals : (rest.map fun v => v.category).sum + (nativeFrameWords "java/lang/System" "arraycopy" 5 + 11) ≤ R.locals) (hdg : decode cc pc = .ok (.invokestatic index, 3))
    (kk : ∀ (locs1 : List Loc), va_S A H0 (H.setIfInBounds a (vp_cell c1 (n1, .inl (va_cpy f g sp.toNatClampNeg dp.toNatClampNeg n.toNatClampNeg)))) locs1 → W p l e R s m args below meth c (H.setIfInBounds a (vp_cell c1 (n1, .inl (va_cpy f g sp.toNatClampNeg dp.toNatClampNeg n.toNatClampNeg)))) locs1 cells slots Q (F0 m (pc + 3) ls rest)) : W p l e R s m args below meth c H locs cells slots Q (F0 m pc ls (.int n :: .int dp :: .ref a :: .int sp :: .ref a0 :: rest)) := by
  have nn : ∀ z : Int32, ¬ z < 0 → z.toInt = (z.toNatClampNeg : Int) := by
    intro z hz
    have hz0 : (0 : Int) ≤ z.toInt := by
      have := Int32.not_lt.mp hz
      simpa using Int32.le_iff_toInt_le.mp this
    show z.toInt = ((z.toInt.toNat : Nat) : Int)
    omega
  intro T hT X
  have hc0 : H[a0]? = some (vp_cell c0 (n0, .inl f)) := hP q0 _ ha0
  have hc1 : H[a]? = some (vp_cell c1 (n1, .inl g)) := hP q1 _ ha1
  obtain ⟨-, k0, hk0, cm0, hkk0⟩ := (hK.2 t0 _ ht0).1 n0 (fun j => .int (f j))
  obtain ⟨-, k1, hk1, cm1, hkk1⟩ := (hK.2 t1 _ ht1).1 n1 (fun j => .int (g j))
  obtain ⟨vm', X', step⟩ := X.arraycopy hexec hown hlink hnat hstat hini (src := a0) (dst := a) (cs := vp_cell c0 (n0, .inl f)) (cd := vp_cell c1 (n1, .inl g)) (srcPos := sp) (destPos := dp) (n := n) (by rw [hT]; exact hc0) (by rw [hT]; exact hc1)
    (fun _ h => by cases h) (fun _ h => by cases h) (fun h => by cases h) (fun h => by cases h) hk0 hk1 hkk0 hkk1 (by simp [hprim]) h1 h2 h3
    (by rw [nn sp h1, nn n h3]; show ¬ _ > ((arrV c0 n0 (fun j => .int (f j))).slots.size : Int); rw [arrV_size]; omega)
    (by rw [nn dp h2, nn n h3]; show ¬ _ > ((arrV c1 n1 (fun j => .int (g j))).slots.size : Int); rw [arrV_size]; omega)
    (fun vm₁ _ i hi => by
      have e : (vp_cell c0 (n0, .inl f)).slots.getD (sp.toNatClampNeg + i) .null = .int (f (sp.toNatClampNeg + i)) := by
        show (arrV c0 n0 (fun j => .int (f j))).slots.getD _ _ = _
        rw [Array.getD_eq_getD_getElem?, arrV_read _ _ (by omega)]
        rfl
      refine ⟨?_, ?_⟩
      · rw [e]
        exact hfit i hi
      · rw [e]
        exact trivial)
    (g := F0 m pc ls (.int n :: .int dp :: .ref a :: .int sp :: .ref a0 :: rest)) rfl (by rw [hml]) (rest := rest) rfl (by rw [hb]; exact hdg) hframes (by show 2 * 0 + _ + _ ≤ _; omega)
  have e1 : copied (vp_cell c0 (n0, .inl f)) (vp_cell c1 (n1, .inl g)) sp dp n = vp_cell c1 (n1, .inl (va_cpy f g sp.toNatClampNeg dp.toNatClampNeg n.toNatClampNeg)) := va_copied (fun z => .int z) c0 c1 f g h4
  rw [e1] at X' step
  have hl : a < H.size := (Array.getElem?_eq_some_iff.mp hc1).1
  have hheap : ((T.setVm vm').setCell a (vp_cell c1 (n1, .inl (va_cpy f g sp.toNatClampNeg dp.toNatClampNeg n.toNatClampNeg)))).heap = H.setIfInBounds a (vp_cell c1 (n1, .inl (va_cpy f g sp.toNatClampNeg dp.toNatClampNeg n.toNatClampNeg))) := by rw [← hT]; rfl
  have oq : ∀ q : Nat, q ≠ a → (H.setIfInBounds a (vp_cell c1 (n1, .inl (va_cpy f g sp.toNatClampNeg dp.toNatClampNeg n.toNatClampNeg))))[q]? = H[q]? := fun q hq => by simp [Array.getElem?_setIfInBounds, Ne.symm hq]
  obtain ⟨t, a1, b1⟩ := kk _ ⟨by simp; exact hS.1, fun q g1 g2 => by
      rw [oq q (fun e => g2 (by rw [e]; exact hD.2 q1 _ ha1))]
      exact hS.2.1 q g1 g2, fun q hq => by
      rcases List.mem_append.mp hq with h | h
      · exact hS.2.2 q h
      · obtain ⟨z, -, hz⟩ := List.mem_map.mp h
        rw [← hz]
        exact hD.2 q1 _ ha1⟩ _ hheap X'
  exact ⟨t, step t a1, b1⟩
end CPY
section ZCY
variable {x : eCx} {E : eEn} {l : Launch} {Q : State → Prop} {P : Option Value → List va_W → Prop} {Γ Γ1 Γ2 Δ : List va_W} {pc : Nat} {L : List (Option Value)} {rest st : List Value} {k n : Nat} {y y' : MethodName} {cc bytes : ByteArray} {nL maxL idx : Nat} {rt ret : Option FieldType} {rm rm' : Room} {As : List Value} {own : String} {b : Nat}
/-- n bytes of the array a0 from 0 on, laid into the array a from 0 on -/
theorem z_copyB {a0 a n0 n1 N : Nat} {f g : Nat → Int32} {cnt : Int32} (i j : Nat) (C : eOk x E l y cc nL rt rm) (hL0 : L.length = nL) (d : decode cc pc = .ok (.invokestatic 150, 3)) (ho : y.cls = "java/util/Arrays") (hi : Γ[i]? = some (eBA E a0 n0 f)) (hj : Γ[j]? = some (eBA E a n1 g)) (hcnt : cnt = nI N) (h4 : N ≤ n0) (h5 : N ≤ n1) (hN : N < 1000000) (hfit : ∀ k, k < N → fits .byte (.int (f k)) = true)
    (hG : Γ.set j (eBA E a n1 (fun k => if k < N then f k else g k)) = Γ2) (hfr : 1 ≤ rm.frames) (hlo : (rest.map fun v => v.category).sum + (nativeFrameWords "java/lang/System" "arraycopy" 5 + 11) ≤ rm.locals)
    (kk : eZ x E Q Γ2 (pc + 3) L rest k n) : eZ x E Q Γ pc L (.int cnt :: .int 0 :: .ref a :: .int 0 :: .ref a0 :: rest) k n := by
  intro H locs ls hP hD hS hl
  have hR := C.2.2.2.2.2.2.2.2.1
  have hK := C.2.2.2.2.2.2.2.1.1
  have hown : (eSt x).vm.findClass "java/util/Arrays" = some (eMi x).cls := by have h := C.2.2.2.1; rw [ho] at h; exact h
  have hts := C.2.2.2.2.1
  obtain ⟨i0, g1, g2⟩ := eBlk hi
  obtain ⟨j0, g3, g4⟩ := eBlk hj
  have hc0 : (0 : Int32).toNatClampNeg = 0 := by decide
  have hcN : cnt.toNatClampNeg = N := by rw [hcnt]; exact nI_clamp (by omega)
  refine eCopy (own := "java/util/Arrays") (A := eA E) C.1 C.2.1 (by show (eCo x).maxLocals = _; rw [C.2.2.1, hl.1.1, hL0]) hown (hts _ q270) (hts _ q272) (hts _ q271) (hts _ q60) hK hP.1 hD hS i0 j0 2 2 (c0 := E.2.1 2) (c1 := E.2.1 2) (n0 := n0) (n1 := n1) (f := f) (g := g) (ty := .byte) g1 g3 rfl rfl rfl (by decide) (by decide) (by rw [hcnt]; exact nI_pos (by omega)) (by rw [hc0, hcN]; omega) (by rw [hc0, hcN]; omega) (fun k hk => by rw [hc0, Nat.zero_add]; rw [hcN] at hk; exact hfit k hk) (by show _ ≤ (eRo x).frames; rw [hR]; exact hfr) (by show _ ≤ (eRo x).locals; rw [hR]; exact hlo) d (fun locs1 hS1 => ?_)
  have hcell : H[a]? = some (vp_cell (E.2.1 2) (n1, .inl g)) := hP.1 j0 _ g3
  have hlt : a < H.size := (Array.getElem?_eq_some_iff.mp hcell).1
  have hfun : va_cpy f g (0 : Int32).toNatClampNeg (0 : Int32).toNatClampNeg cnt.toNatClampNeg = fun k => if k < N then f k else g k := by
    funext k
    rw [hc0, hcN, va_cpy]
    by_cases h : k < N
    · rw [if_pos ⟨Nat.zero_le _, by omega⟩, if_pos h, Nat.zero_add, Nat.sub_zero]
    · rw [if_neg (fun h2 => h (by omega)), if_neg h]
  rw [hfun] at hS1 ⊢
  have e1 : (H.setIfInBounds a (vp_cell (E.2.1 2) (n1, .inl (fun k => if k < N then f k else g k))))[a]? = some (vp_cell (E.2.1 2) (n1, .inl (fun k => if k < N then f k else g k))) := by simp [Array.getElem?_setIfInBounds, hlt]
  have oq : ∀ q : Nat, q ≠ a → (H.setIfInBounds a (vp_cell (E.2.1 2) (n1, .inl (fun k => if k < N then f k else g k))))[q]? = H[q]? := fun q hq => by simp [Array.getElem?_setIfInBounds, Ne.symm hq]
  have hP1 := eP_set (E := E) (A := eA E) (e := .inl (E.2.1 2, n1, .inl (fun k => if k < N then f k else g k))) hP hD g3 e1 (eFr.of e1 rfl rfl) oq
  have hD1 := hD.set (e := .inl (E.2.1 2, n1, .inl (fun k => if k < N then f k else g k))) g3
  rw [← g4 (a, .inl (E.2.1 2, n1, .inl (fun k => if k < N then f k else g k)))] at hP1 hD1
  subst hG
  exact kk _ locs1 ls hP1 hD1 hS1 hl
/-- super.y'() -/
theorem z_callSU {ci : Nat} {fs : List Value} {r : vw_C} (k1 k2 : List Nat) (nA : Nat) (hM : eMet l E y' (ws_ y' bytes maxL ret) rm' (.ref b :: As) Γ1 P) (C : eOk x E l y cc nL rt rm) (d : decode cc pc = .ok (.invokespecial idx, 3)) (hL0 : L.length = nL) (hst : st = As.reverse ++ .ref b :: rest) (hb : (b, (.inr (ci, fs) : va_E)) ∈ Γ.flatten) (hc : eCl[ci]? = some r) (ho : y.cls = own) (q1 : Cond.methodLink own idx y' ∈ lw_all) (q6 : Cond.sameMethod y'.cls y'.cls y'.name y'.desc ∈ lw_all) (q7 : Cond.superclass own y'.cls ∈ lw_all) (q2 : Cond.instanceMethod y' ∈ lw_all) (q4 : Cond.initialized y'.cls ∈ lw_all) (q5 : Cond.code y' bytes maxL ret ∈ lw_all)
    (hd : y'.name ≠ "<init>" ∧ (parseMethodDescriptor y'.desc).map (fun d => d.parameters.length) = some nA) (hn : As.length = nA) (hp : (k1 ++ k2).isPerm (List.range Γ.length) = true) (h1 : ePick Γ k1 = Γ1) (h2 : ePick Γ k2 = Δ) (hf : rm'.frames + 1 ≤ rm.frames ∧ 8 + (maxL + 11) + rm'.locals ≤ rm.locals) (hr : (rest.map fun v => v.category).sum ≤ 8) (hk : k + rm'.cells ≤ rm.cells ∧ n + rm'.slots ≤ rm.slots)
    (kk : ∀ (v : Option Value) (Γ2 : List va_W), P v Γ2 → eZ x E Q (Γ2 ++ Δ) (pc + 3) L (v.toList ++ rest) (k + rm'.cells) (n + rm'.slots)) : eZ x E Q Γ pc L st k n := by
  intro H locs ls hP hD hS hl
  have hR := C.2.2.2.2.2.2.2.2.1
  have hll := C.2.2.2.2.2.2.2.2.2.1
  subst hst
  refine eRun (va_runSU (As := As) (rest := rest) (cc := cc) (nL := nL) (Ts := lw_all) (own := own) (C.2.2.2.2.2.2.2.1.1.1 ci r hc).2 ⟨C.1, C.2.1, C.2.2.1, ho ▸ C.2.2.2.1, C.2.2.2.2.1⟩ (hll ▸ hM Δ.flatten) (va_cwSU (R := eRo x) nA C.2.2.2.2.1 (lw_app ?_ (lw_meth q5)) rfl rfl rfl hd (by rw [hR]; exact hf)) ⟨ePc.blind, eRecv C hP hb hc, eCallPre C hP hD hS hp h1 h2⟩ rfl hn (by rw [hl.1.1, hL0]) rfl (lv_room hr) d (by show k + _ ≤ (eRo x).cells ∧ n + _ ≤ (eRo x).slots; rw [hR]; exact hk)) hS (fun v Γ2 H1 locs1 hp hP1 hD1 hS1 => ?_)
  · intro w hw
    simp only [List.mem_cons, List.not_mem_nil, or_false] at hw
    rcases hw with e | e | e | e | e
    · rw [e]; exact q1
    · rw [e]; exact q6
    · rw [e]; exact q7
    · rw [e]; exact q2
    · rw [e]; exact q4
  · rw [eJ_fl] at hP1 hD1
    exact kk v Γ2 hp H1 locs1 ls hP1 hD1 hS1 hl
/-- a private method, called on an object of a class below its own -/
theorem eCallP {p : Program} {l : Launch} {e : Env} {R : Room} {s : State} {m : MethodId} {args : Array Value} {below : List Frame} {meth : Method} {c : Code} {T : State} {locs : List Loc} {cells slots : Nat} (X : Stand p l e R s m args below meth c T locs cells slots) (hexec : p.tables.exec = Jvm.exec) {own : String} {index : Nat} {y : MethodName} {bytes : ByteArray} {maxL : Nat} {ret : Option FieldType}
    (hown : s.vm.findClass own = some m.cls) (hlink : (Cond.methodLink own index y).before args s = true) (hinst : (Cond.instanceMethod y).before args s = true) (hpriv : s.PrivateAt y) (hni : ∀ k : Class, s.vm.classes[(m.cls)]? = some k → k.isInterface = false) (hyo : y.cls = own)
    (hcode : (Cond.code y bytes maxL ret).before args s = true) (hy : y.cls ≠ "java/lang/invoke/MethodHandle" ∧ y.cls ≠ "java/lang/invoke/VarHandle")
    {W9 : Nat} {Pre : Pt → Array Value → Prop} {Post : Pt → Array Value → Option Value → Pt → Prop} (hK : Back l R p e below s args y 3 W9 Pre Post)
    {b : Addr} {cellB : Cell} (hcell : T.heap[b]? = some cellB) (hobj : cellB.vm.isStatics = false)
    {g : JFrame} (hg : g.method = m) (hsize : g.locals.size = c.maxLocals) {argsL rest : List Value} (hlen : ∀ sig, parseMethodDescriptor y.desc = some sig → argsL.length = sig.parameters.length)
    (hstack : g.stack = argsL.reverse ++ .ref b :: rest) (hW : 2 * g.monitorRoom + (rest.map fun v => v.category).sum ≤ W9) (hdg : decode c.code g.pc = .ok (.invokevirtual index, 3))
    (hpre : ∀ vm₁, s.WarmedH vm₁ → Pre ⟨T.setVm vm₁, locs, cells, slots⟩ (Value.ref b :: argsL).toArray) :
    ∃ (v : Option Value) (vm₁ : Vm) (B : Pt), s.WarmedH vm₁ ∧ Stand p l e R s m args below meth c B.U B.locs B.cells B.slots ∧ Post ⟨T.setVm vm₁, locs, cells, slots⟩ (Value.ref b :: argsL).toArray v B ∧
      ∀ target, Steps p.tables e below (B.U.setTop { g with pc := g.pc + 3, stack := v.toList ++ rest }) target → Steps p.tables e below (T.setTop g) target := by
  obtain ⟨mk, methM, hnamed, hmethM, hstM, habM⟩ := Cond.instanceMethod_spec hinst
  obtain ⟨methM', cM, hmethM', -, -, -, -, -, -, hsigM⟩ := Cond.code_spec hnamed hcode
  cases hmethM.symm.trans hmethM'
  obtain ⟨kP, hkP, -⟩ := className_of_methodNamed hnamed
  have hcl : mk.cls = m.cls := Option.some.inj ((findClass_of_methodNamed hnamed).symm.trans (hyo ▸ hown))
  have hkPi : kP.isInterface = false := hni kP (by rw [← hcl]; exact hkP)
  have hselP : selectMethod e.platform s.vm cellB.cls mk = .method mk := selectMethod_private hmethM (hpriv mk methM hnamed hmethM)
  obtain ⟨vm₁, X₁, hstep₁⟩ := X.invokevirtual hexec hown hlink hnamed hmethM hstM hkP hkPi hy (a := b) (cell := cellB) hcell
    (fun z h => by rw [h] at hobj; cases hobj) hselP hmethM habM hkP hkPi (g := g) hg (argsL := argsL) (rest := rest) (hlen _ hsigM) hstack hdg
  obtain ⟨v, B, X', hpost, hsteps⟩ := hK m meth c ⟨T.setVm vm₁, locs, cells, slots⟩ { g with stack := rest } (.invokevirtual index) mk (Value.ref b :: argsL).toArray X₁ hg hsize hdg hW (X₁.named hnamed) (hpre vm₁ X₁.warmed)
  exact ⟨v, vm₁, B, X₁.warmed, X', hpost, fun target h => hstep₁ _ fun acts => by rw [doInvoke_state]; exact hsteps.trans h⟩
theorem z_callP {ci : Nat} {fs : List Value} {r : vw_C} {nm dd : String} (k1 k2 : List Nat) (nA : Nat) (hM : eMet l E y' (ws_ y' bytes maxL ret) rm' (.ref b :: As) Γ1 P) (C : eOk x E l y cc nL rt rm) (d : decode cc pc = .ok (.invokevirtual idx, 3)) (hL0 : L.length = nL) (hst : st = As.reverse ++ .ref b :: rest) (hb : (b, (.inr (ci, fs) : va_E)) ∈ Γ.flatten) (hc : eCl[ci]? = some r) (ho : y.cls = own) (hyo : y'.cls = own) (q1 : Cond.methodLink own idx y' ∈ lw_all) (q2 : Cond.instanceMethod y' ∈ lw_all) (qp : Cond.privateMethod y' ∈ lw_tbl) (q6 : Cond.sameMethod own own nm dd ∈ lw_all) (q4 : Cond.initialized y'.cls ∈ lw_all) (q5 : Cond.code y' bytes maxL ret ∈ lw_all)
    (hd : y'.cls ≠ "java/lang/invoke/MethodHandle" ∧ y'.cls ≠ "java/lang/invoke/VarHandle" ∧ (parseMethodDescriptor y'.desc).map (fun d => d.parameters.length) = some nA) (hn : As.length = nA) (hp : (k1 ++ k2).isPerm (List.range Γ.length) = true) (h1 : ePick Γ k1 = Γ1) (h2 : ePick Γ k2 = Δ) (hf : rm'.frames + 1 ≤ rm.frames ∧ 8 + (maxL + 11) + rm'.locals ≤ rm.locals) (hr : (rest.map fun v => v.category).sum ≤ 8) (hk : k + rm'.cells ≤ rm.cells ∧ n + rm'.slots ≤ rm.slots)
    (kk : ∀ (v : Option Value) (Γ2 : List va_W), P v Γ2 → eZ x E Q (Γ2 ++ Δ) (pc + 3) L (v.toList ++ rest) (k + rm'.cells) (n + rm'.slots)) : eZ x E Q Γ pc L st k n := by
  intro H locs ls hP hD hS hl
  have hR := C.2.2.2.2.2.2.2.2.1
  have hll := C.2.2.2.2.2.2.2.2.2.1
  subst hst
  have hts := C.2.2.2.2.1
  have hown : (eSt x).vm.findClass own = some (eMi x).cls := ho ▸ C.2.2.2.1
  obtain ⟨cn, ck, r1, hcn, hck, hni, -⟩ := Cond.sameMethod_found (hts _ q6)
  have hni2 : ∀ kz : Class, (eSt x).vm.classes[(eMi x).cls]? = some kz → kz.isInterface = false := fun kz hz => by
    have e1 : cn = (eMi x).cls := Option.some.inj (hcn.symm.trans hown)
    rw [← e1] at hz
    cases hz.symm.trans hck
    exact hni
  have hpr : va_Nw (.privateMethod y') (eSt x) := C.2.2.2.2.2.2.2.1.2.2.1 _ (eNw_in qp rfl)
  have hlen : ∀ sig, parseMethodDescriptor y'.desc = some sig → As.length = sig.parameters.length := fun sig hs => by
    have h2 := hd.2.2
    rw [hs] at h2
    exact hn.trans (Option.some.inj h2).symm
  obtain ⟨cellB, hcB, hoB, hclB⟩ := eRecv C hP hb hc
  have hK : Back x.2.1 (eRo x) x.1 x.2.2.1 (eBe x) (eSt x) (eAr x) y' 3 8 (PreOf (eRo x) rm'.cells rm'.slots (ePc E (.ref b :: As) Γ1 Δ.flatten)) (PostOf (eQc E P Δ.flatten) rm'.cells rm'.slots (eA E)) :=
    back_of (bytes := bytes) (maxL := maxL) (ret := ret) (hll ▸ hM Δ.flatten) ePc.blind rfl rfl (by rw [hR]; exact hf.1) (by rw [hR]; exact hf.2) (pay_in hts (lw_meth q5)) List.mem_cons_self (fun a' U hW => word_at hW (Or.inl (by first | rfl | simp [Cond.onTables, Cond.keeps, Cond.steady])) (hts _ q4))
  refine eRun (a := (Value.ref b :: As).toArray) (E := E) (P := P) (rs := Δ.flatten) (mc := rm'.cells) (ms := rm'.slots) (rest := rest) (fun T hT X => ?_) hS (fun v Γ2 H1 locs1 hp hP1 hD1 hS1 => ?_)
  · obtain ⟨v, vm₁, ⟨U', l2, c2, s2⟩, hW₁, X', ⟨g', mk, t, L, e1, e2, hq, h1, hL, h2, h3⟩, st⟩ := eCallP X C.1 hown (hts _ q1) (hts _ q2) (Cond.privateMethod_at hpr) hni2 hyo (hts _ q5) ⟨hd.1, hd.2.1⟩ hK (by rw [hT]; exact hcB) hoB rfl (by show _ = (eCo x).maxLocals; rw [C.2.2.1, ← hL0]; exact hl.1.1) (argsL := As) (rest := rest) hlen rfl (lv_room hr) (by rw [C.2.1]; exact d)
      (fun vm₁ hW₁ => ⟨by show k + _ ≤ (eRo x).cells; rw [hR]; exact hk.1, by show n + _ ≤ (eRo x).slots; rw [hR]; exact hk.2, eCallPre C hP hD hS hp h1 h2 (T.setVm vm₁) hT hW₁⟩)
    dsimp only [Pt.U, Pt.locs, Pt.cells, Pt.slots] at X' e1 e2 h1 h2 h3 st
    subst h1; subst h2; subst h3
    exact ⟨v, (T.setVm vm₁).calling g' mk (Value.ref b :: As).toArray, t, U', L, hT, X', hL, e1, e2, hq, st⟩
  · rw [eJ_fl] at hP1 hD1
    exact kk v Γ2 hp H1 locs1 ls hP1 hD1 hS1 hl
end ZCY
