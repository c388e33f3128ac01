/-! ===== getCause() ===== -/
set_option maxRecDepth 100000
theorem gc_0 : decode prog_34_method_8_code 0 = .ok (.aload_n 0, 1) := by decide +kernel
theorem gc_1 : decode prog_34_method_8_code 1 = .ok (.getfield 7, 3) := by decide +kernel
theorem gc_4 : decode prog_34_method_8_code 4 = .ok (.aload_n 0, 1) := by decide +kernel
theorem gc_5 : decode prog_34_method_8_code 5 = .ok (.if_acmp .ne 7, 3) := by decide +kernel
theorem gc_8 : decode prog_34_method_8_code 8 = .ok (.aconst_null, 1) := by decide +kernel
theorem gc_9 : decode prog_34_method_8_code 9 = .ok (.goto 7, 3) := by decide +kernel
theorem gc_12 : decode prog_34_method_8_code 12 = .ok (.aload_n 0, 1) := by decide +kernel
theorem gc_13 : decode prog_34_method_8_code 13 = .ok (.getfield 7, 3) := by decide +kernel
theorem gc_16 : decode prog_34_method_8_code 16 = .ok (.areturn, 1) := by decide +kernel
section ZG
variable {x : eCx} {E : eEn} {l : Launch} {Q : State → Prop} {Γ : List va_W} {pc : Nat} {L : List (Option Value)} {rest : List Value} {k n : Nat} {y : MethodName} {cc : ByteArray} {nL : Nat} {rt : Option FieldType} {rm : Room}
/-- getCause()'s last step -/
theorem gc_ret (p : Program) {e : Env} {below : List Frame} {s₀ V : State} {g : JFrame} {c : Code} {mk : MethodId} {meth : Method} {cG : Code} {self : Addr} {cell : Cell} {w : Value} {ig : Instr} {len : Nat} (h : At V g.method c below) (hexec : p.tables.exec = Jvm.exec) (hW : s₀.WarmedH V.vm)
    (howns : e.platform.frameOwnsMonitors = true) (hmeth : s₀.vm.method? mk = some meth) (hcode : meth.code = some cG) (hlk : meth.locks = true) (hmax : cG.maxLocals = 1) (hbytes : cG.code = prog_34_method_8_code) (hret : meth.sig.returnType = some (.object "java/lang/Throwable")) (hplain : V.plainMethod mk)
    (hcell : V.heap[self]? = some cell) (hmon : cell.monitor.owner = none ∧ cell.monitor.count = 0) (hw : w.isRef = true) (hdg : decode c.code g.pc = .ok (ig, len)) {target : State}
    (hrest : Steps p.tables e below (V.setTop { g with pc := g.pc + len, stack := w :: g.stack }) target) :
    Steps p.tables e below ((fillInside V g mk self cell).setTop (fillJ mk self 16 [w])) target := by
  have hlt : self < V.heap.size := (Array.getElem?_eq_some_iff.mp hcell).1
  have hA : At (fillInside V g mk self cell) mk cG below := by
    have := At.enter_sync (g := g) h #[.ref self] self (cell.withEntry V.cur) (by rw [hW.alike.method?]; exact hmeth) hcode hplain
    rw [hmax] at this
    exact this
  have hmV : V.vm.method? mk = some meth := by rw [hW.alike.method?]; exact hmeth
  have hcellU : (fillInside V g mk self cell).heap[self]? = some (cell.withEntry V.cur) := by
    show (V.heap.setIfInBounds self (cell.withEntry V.cur))[self]? = _
    simp [hlt]
  jvm_step hA [hA.top, hexec, hbytes, gc_16, areturn.wp_sem, hw, FieldType.isReference]
  refine ⟨meth, hmV, ⟨_, hret, rfl⟩, fun acts' => ?_⟩
  have hfr : (fillInside V g mk self cell).frames = .java (entryFrameSync mk #[.ref self] 1 self) :: .java g :: V.frames.tail := frames_entered (g := g) (show (V.setCell self (cell.withEntry V.cur)).topJava?.isSome from h.top) _
  have hcodeg : (fillInside V g mk self cell).code? g.method = some c := by
    have := h.code
    rw [State.code?_eq] at this ⊢
    exact this
  rw [doReturn_leave_sync (u := fillInside V g mk self cell) (g := g) (meth := meth) (cg := c) (ig := ig) (len := len) (a := self) (cell := cell.withEntry V.cur)
      (f := fillJ mk self 16 []) (f₀ := entryFrameSync mk #[.ref self] 1 self) (r := V.frames.tail) acts' howns hfr hmV hlk rfl rfl hcellU rfl hcodeg hdg, Cell.left_withEntry _ hmon.1 hmon.2]
  have e1 : ((fillInside V g mk self cell).setCell self cell).setFrames (.java g :: V.frames.tail) = V.setTop g := by
    have e2 : (fillInside V g mk self cell).setFrames (.java g :: V.frames.tail) = (V.setCell self (cell.withEntry V.cur)).setTop g := setFrames_entered (s := V.setCell self (cell.withEntry V.cur)) h.top _
    rw [← State.setCell_setFrames, e2]
    show ((V.setTop g).setCell self (cell.withEntry V.cur)).setCell self cell = _
    rw [setCell_twice]
    exact State.setCell_asItLies hcell
  have e3 : ∀ g', (V.setTop g).setTop g' = V.setTop g' := heapOnly_id.setTop_setTop (s := V) h.top g
  rw [e1, e3]
  exact hrest
set_option maxHeartbeats 4000000 in
/-- getCause() of an Ungraded: null if the cause is the object itself -/
theorem z_gc {a : Nat} {fs : List Value} {w ans : Value} (i : Nat) (C : eOk x E l y cc nL rt rm) (hL0 : L.length = nL) (d : decode cc pc = .ok (.invokevirtual 16, 3)) (ho : y.cls = RX7) (hΓ : Γ[i]? = some (eO a 7 fs)) (hf : fs[0]? = some w)
    (hans : (w = .ref a ∧ ans = .null) ∨ (∃ b, w = .ref b ∧ b ≠ a ∧ ans = w))
    (hfr : 2 < rm.frames) (hlo : (rest.map fun v => v.category).sum + 40 ≤ rm.locals)
    (kk : eZ x E Q Γ (pc + 3) L (ans :: rest) k n) : eZ x E Q Γ pc L (.ref a :: rest) k n := by
  intro H locs ls hP hD hS hl T1 hT X
  obtain ⟨p, l', e, R, s, m, args, below, meth, c⟩ := x
  dsimp only at hT X hS
  have hK := C.2.2.2.2.2.2.2.1.1
  have hR : R = rm := C.2.2.2.2.2.2.2.2.1
  have hll : l' = l := C.2.2.2.2.2.2.2.2.2.1
  have hexec : p.tables.exec = Jvm.exec := C.1
  have hb : c.code = cc := C.2.1
  have hml : c.maxLocals = nL := C.2.2.1
  have hown : s.vm.findClass "EggLights$Ungraded" = some m.cls := by have h := C.2.2.2.1; rw [ho] at h; exact h
  have hts : ∀ w ∈ lw_all, w.before args s = true := C.2.2.2.2.1
  have howns : e.platform.frameOwnsMonitors = true := by rw [X.admits.platform]
  have hfin : e.platform.finalization = false := by rw [X.admits.platform]
  have hpl : e.platform.magicAccessors = ({} : Platform).magicAccessors := by rw [X.admits.platform]
  obtain ⟨T0, Z0, Lk, -, Y⟩ := ThrowableC.of_atoms (args := args) howns hfin hpl (eThA C)
  obtain ⟨i0, h1, h2⟩ := eBlk hΓ
  have hmf := hP.2 _ (List.mem_of_getElem? h1)
  obtain ⟨rr, g1, cell, c1, c2, c3, c4⟩ := hP.1 i0 _ h1
  have hrr : rr = (RX7, TX7, 6) := Option.some.inj (g1.symm.trans eK7.1)
  subst hrr
  obtain ⟨hSl, hfc, kC, hkC, hkind⟩ := hK.1 7 _ eK7.1
  have hmon := eFr.mon c1 hmf
  have hcls : s.vm.findClass "EggLights$Ungraded" = some cell.cls := by rw [c2]; exact hfc
  obtain ⟨cf1, kf1, fi1, f1, hi1, hs1⟩ := hSl 0 (by decide)
  have hi1 : s.fieldFound? "java/lang/Throwable" "cause" "Ljava/lang/Throwable;" = some (cf1, kf1, fi1, f1) := hi1
  have e1 : f1 = T0.fCause := by have := hi1.symm.trans Y.cause; simp at this; exact this.2.2.2
  have hvC : cell.slots[T0.fCause.slot]? = some w := by
    rw [← e1, hs1, c4 0 (by show 0 < 6; decide)]
    simp [vp_V, hf]
  -- the method
  have hdc : (Cond.declares ⟨"java/lang/Throwable", "getCause", "()Ljava/lang/Throwable;"⟩).before #[] s = true := C.2.2.2.2.2.2.2.1.2.2.1 _ (eNw_in q1250 rfl)
  obtain ⟨r0, r, hn, hrm, hstR, hsigR⟩ := Cond.declares_spec hdc
  obtain ⟨cn, ck, r1, hcn, hck, hni, hff, hn1⟩ := Cond.sameMethod_found (hts _ q1249)
  cases hn.symm.trans hn1
  obtain ⟨mk, methM, hnamed, hmethM, hstM, habM⟩ := Cond.instanceMethod_spec (hts _ q1252)
  obtain ⟨methM', cG, hmethM', hcodeM, hbytesM, hmaxM, hretM, hlkM, -, -⟩ := Cond.codeSync_spec hnamed (hts _ q1253)
  cases hmethM.symm.trans hmethM'
  obtain ⟨c2', r2, m2, z1, z2, z3, z4, kP, hkP, hkPi⟩ := Cond.selects_spec (hts _ q1251)
  cases hcls.symm.trans z1
  cases hff.symm.trans z2
  cases hnamed.symm.trans z3
  have hselP : selectMethod e.platform s.vm cell.cls r0 = .method mk := by rw [Launch.admits_selectMethod X.admits]; exact z4
  have hcT : mk.cls = T0.cT := Option.some.inj ((findClass_of_methodNamed hnamed).symm.trans Y.found)
  have hcell : T1.heap[a]? = some cell := by rw [hT]; exact c1
  have hl7 : s.vm.FieldLinks e.platform mk.cls 7 T0.ci7 T0.cT T0.i7 := by rw [hcT]; exact Lk.link7
  have hr7 : s.rightAt mk.cls 7 (.field T0.cT T0.i7) = true := by rw [hcT]; exact Lk.right7
  obtain ⟨vm₁, X₁, hstep₁⟩ := X.invokevirtualUp hexec hown (hts _ q1248) (hts _ q1249) (by decide) hn hrm hstR (a := a) (cell := cell) hcell (fun z h => by rw [c3] at h; cases h) hselP hmethM habM hkP hkPi
    (g := F0 m pc ls (.ref a :: rest)) rfl (argsL := []) (rest := rest) (by
      have h0 : (parseMethodDescriptor "()Ljava/lang/Throwable;").map (fun d => d.parameters.length) = some 0 := by decide
      have h1 : parseMethodDescriptor "()Ljava/lang/Throwable;" = some r.sig := hsigR
      rw [h1] at h0
      exact (Option.some.inj h0).symm) rfl (by rw [hb]; exact d)
  have hsz : ls.size = c.maxLocals := by rw [hl.1.1, hL0, hml]
  have hfrR : 2 < R.frames := by rw [hR]; exact hfr
  have hloR : 2 * (F0 m pc ls rest).monitorRoom + ((F0 m pc ls rest).stack.map fun v => v.category).sum + 40 ≤ R.locals := by
    rw [hR]
    show 2 * 0 + (rest.map fun v => v.category).sum + 40 ≤ _
    omega
  have hroomF := X₁.notFull (g := F0 m pc ls rest) hsz (vars := 1 + 2) (by omega) (by omega)
  have hplain : ∀ U : State, s.WarmedH U.vm → U.plainMethod mk := fun U hW => hW.plainAt fun k hk => by
    obtain ⟨k', hk', hn'⟩ := className_of_methodNamed hnamed
    cases hk.symm.trans hk'
    rw [hn']; decide
  have hAt : ∀ V : State, s.WarmedH V.vm → At V m c below → At (fillInside V (F0 m pc ls rest) mk a cell) mk cG below := fun V hW h => by
    have := At.enter_sync (g := F0 m pc ls rest) h #[.ref a] a (cell.withEntry V.cur) (by rw [hW.alike.method?]; exact hmethM) hcodeM (hplain V hW)
    rw [hmaxM] at this
    exact this
  have hin : ∀ V : State, V.heap[a]? = some cell → (fillInside V (F0 m pc ls rest) mk a cell).heap[a]? = some (cell.withEntry V.cur) := fun V h => by
    show (V.heap.setIfInBounds a (cell.withEntry V.cur))[a]? = _
    simp [(Array.getElem?_eq_some_iff.mp h).1]
  have hkn : (cell.withEntry T1.cur).vm ≠ .unknown := by show cell.vm ≠ _; rw [c3]; exact fun h => by cases h
  have hW1 : s.WarmedH vm₁ := X₁.warmed
  have hwref : w.isRef = true := by rcases hans with ⟨rfl, -⟩ | ⟨b, rfl, -⟩ <;> rfl
  have haref : ans.isRef = true := by rcases hans with ⟨-, rfl⟩ | ⟨b, rfl, -, rfl⟩ <;> rfl
  obtain ⟨vm2, hW2, st2⟩ := Steps.getfieldCold (tb := p.tables) (s₀ := s) (U := fillInside (T1.setVm vm₁) (F0 m pc ls rest) mk a cell) (f := fillJ mk a 1 [.ref a]) (a := a) (rest := []) (cell := cell.withEntry T1.cur) (v := w) (hAt _ hW1 X₁.here) hexec (by rw [hbytesM]; exact gc_1) hW1 hl7 hr7 Lk.cls Lk.at7
    Lk.causeInstance rfl (hin _ hcell) hkn hvC
  have X2 := X₁.noted hW2
  have hA2 : At (fillInside ((T1.setVm vm₁).setVm vm2) (F0 m pc ls rest) mk a cell) mk cG below := hAt _ hW2 X2.here
  have hfin : ∃ vm3, s.WarmedH vm3 ∧ ∀ target, Steps p.tables e below ((fillInside ((T1.setVm vm₁).setVm vm3) (F0 m pc ls rest) mk a cell).setTop (fillJ mk a 16 [ans])) target →
      Steps p.tables e below ((fillInside ((T1.setVm vm₁).setVm vm2) (F0 m pc ls rest) mk a cell).setTop (fillJ mk a 4 [w])) target := by
    rcases hans with ⟨rfl, rfl⟩ | ⟨b, rfl, hne, rfl⟩
    · refine ⟨vm2, hW2, fun target hrest => ?_⟩
      jvm_step hA2 [hexec, hbytesM, gc_4, Value.isRef]
      jvm_step hA2 [hexec, hbytesM, gc_5, if_acmp.holds, Value.asRef?]
      jvm_step hA2 [hexec, hbytesM, gc_8, Value.isRef]
      jvm_step hA2 [hexec, hbytesM, gc_9, Value.isRef]
      exact hrest
    · obtain ⟨vm3, hW3, st3⟩ := Steps.getfieldCold (tb := p.tables) (s₀ := s) (U := fillInside ((T1.setVm vm₁).setVm vm2) (F0 m pc ls rest) mk a cell) (f := fillJ mk a 13 [.ref a]) (a := a) (rest := []) (cell := cell.withEntry T1.cur) (v := .ref b) hA2 hexec (by rw [hbytesM]; exact gc_13) hW2 hl7 hr7 Lk.cls Lk.at7
        Lk.causeInstance rfl (hin _ hcell) hkn hvC
      refine ⟨vm3, hW3, fun target hrest => ?_⟩
      jvm_step hA2 [hexec, hbytesM, gc_4, Value.isRef]
      jvm_step hA2 [hexec, hbytesM, gc_5, if_acmp.holds, Value.asRef?, hne]
      jvm_step hA2 [hexec, hbytesM, gc_12, Value.isRef]
      exact st3 target hrest
  obtain ⟨vm3, hW3, st3⟩ := hfin
  have X3 := X2.noted hW3
  obtain ⟨t, a1, b1⟩ := kk H locs ls hP hD hS hl ((T1.setVm vm₁).setVm vm3) hT (X₁.noted hW3)
  refine ⟨t, hstep₁ t (fun acts => ?_), b1⟩
  rw [doInvoke_enter_sync X₁.here.top acts (by show vm₁.method? mk = _; rw [hW1.alike.method?]; exact hmethM) hcodeM hlkM hstM rfl hcell (Or.inl hmon.1) (by rw [hmaxM]; exact hroomF), hmaxM]
  have hA1 := hAt _ hW1 X₁.here
  show Steps p.tables e below ((fillInside (T1.setVm vm₁) (F0 m pc ls rest) mk a cell).setTop (fillJ mk a 0 [])) t
  jvm_step hA1 [hexec, hbytesM, gc_0, Value.isRef]
  refine st2 t (st3 t ?_)
  have hd : decode c.code (F0 m pc ls rest).pc = .ok (.invokevirtual 16, 3) := by rw [hb]; exact d
  exact gc_ret p (s₀ := s) (V := (T1.setVm vm₁).setVm vm3) (g := F0 m pc ls rest) (cell := cell) (X₁.noted hW3).here hexec hW3 howns hmethM hcodeM hlkM hmaxM hbytesM hretM (hplain _ hW3) hcell hmon haref hd a1
end ZG
