/-! ===== Throwable: its statics, fillInStackTrace() ===== -/
set_option maxRecDepth 100000
theorem eThW : ∀ w ∈ Bundle.throwableAtoms.filter vx_no, w ∈ lw_all := lw_in _ [71, 555, 564, 570, 573, 575, 556, 557, 99, 100, 558, 563, 571, 784, 545, 785, 547, 786, 549, 559, 561, 551] (by decide +kernel) (by decide +kernel)
/-- the static UNASSIGNED_STACK holds r -/
def eUn (x : eCx) (E : eEn) (r : Option Nat) : Prop := va_Z Bundle.tN "UNASSIGNED_STACK" Bundle.steD (va_rf r) (eA E) (eSt x) (eSt x).heap
section ZT
variable {x : eCx} {E : eEn} {l : Launch} {Q : State → Prop} {Γ : List va_W} {pc : Nat} {L : List (Option Value)} {rest : List Value} {k n : Nat} {y : MethodName} {cc : ByteArray} {nL : Nat} {rt : Option FieldType} {rm : Room}
theorem eThA (C : eOk x E l y cc nL rt rm) : ∀ w ∈ Bundle.throwableAtoms, w.before (eAr x) (eSt x) = true := by
  have hU := C.2.2.2.2.2.2.2.1.2.2.2.2.2.1.2.1.1
  have hN := C.2.2.2.2.2.2.2.1.2.2.2.2.2.1.2.1.2.1
  exact vx_own (fun w hw => C.2.2.2.2.1 _ (eThW w hw)) (vx_isRefq hU.1) (vx_isRefq hN.1) hU.2.word hN.2.word
theorem z_getsU {idx : Nat} {own ref : String} (C : eOk x E l y cc nL rt rm) (d : decode cc pc = .ok (.getstatic idx, 3)) (ho : y.cls = own) (q : Cond.fieldLink own idx ref "UNASSIGNED_STACK" Bundle.steD ∈ lw_all) (hr : ref = Bundle.tN)
    (kk : ∀ r : Option Nat, eUn x E r → eZ x E Q Γ (pc + 3) L (va_rf r :: rest) k n) : eZ x E Q Γ pc L rest k n := by
  intro H locs ls hP hD hS hl
  rcases C.2.2.2.2.2.2.2.1.2.2.2.2.2.1.2.1.1.1 with h | ⟨t, h⟩
  · exact va_gets C.1 C.2.1 h hS (own := own) (ho ▸ C.2.2.2.1) (C.2.2.2.2.1 _ q) (fun _ h => hr ▸ h) d (kk none h H locs ls hP hD hS hl)
  · exact va_gets C.1 C.2.1 h hS (own := own) (ho ▸ C.2.2.2.1) (C.2.2.2.2.1 _ q) (fun _ h => hr ▸ h) d (kk (some t) h H locs ls hP hD hS hl)
theorem z_getsN {idx : Nat} {own ref : String} (C : eOk x E l y cc nL rt rm) (d : decode cc pc = .ok (.getstatic idx, 3)) (ho : y.cls = own) (q : Cond.fieldLink own idx ref "SUPPRESSED_SENTINEL" Bundle.listD ∈ lw_all) (hr : ref = Bundle.tN)
    (kk : ∀ r : Option Nat, eZ x E Q Γ (pc + 3) L (va_rf r :: rest) k n) : eZ x E Q Γ pc L rest k n := by
  intro H locs ls hP hD hS hl
  rcases C.2.2.2.2.2.2.2.1.2.2.2.2.2.1.2.1.2.1.1 with h | ⟨t, h⟩
  · exact va_gets C.1 C.2.1 h hS (own := own) (ho ▸ C.2.2.2.1) (C.2.2.2.2.1 _ q) (fun _ h => hr ▸ h) d (kk none H locs ls hP hD hS hl)
  · exact va_gets C.1 C.2.1 h hS (own := own) (ho ▸ C.2.2.2.1) (C.2.2.2.2.1 _ q) (fun _ h => hr ▸ h) d (kk (some t) H locs ls hP hD hS hl)
set_option maxHeartbeats 4000000 in
/-- fillInStackTrace() of an exception in its constructor: nothing changes (no traces are kept) -/
theorem z_fill {ci N a : Nat} (j1 j4 : Nat) {Cn : String} {T : u_T} {ty : Nat → FieldType} {fs : List Value} {r : Option Nat} (K : eCls ci Cn T N ty) (i : Nat) (C : eOk x E l y cc nL rt rm) (hL0 : L.length = nL) (d : decode cc pc = .ok (.invokevirtual 27, 3)) (ho : y.cls = Bundle.tN) (hΓ : Γ[i]? = some (eO a ci fs)) (hU : eUn x E r)
    (hN1 : j1 < N) (hN4 : j4 < N) (ht1 : T j1 = (Bundle.tN, "stackTrace", Bundle.steD, false)) (ht4 : T j4 = (Bundle.tN, "backtrace", "Ljava/lang/Object;", false)) (hf1 : fs[j1]? = some (va_rf r)) (hf4 : fs[j4]? = some .null)
    (q1 : Cond.selects Cn Bundle.tFill Bundle.tFill ∈ lw_all) (q2 : Cond.selects Cn Bundle.tFill0 Bundle.tFill0 ∈ lw_all) (q3 : Cond.lays Cn Bundle.tN "stackTrace" Bundle.steD ∈ lw_all)
    (hfr : 2 < rm.frames) (hlo : (rest.map fun v => v.category).sum + 40 ≤ rm.locals)
    (kk : eZ x E Q Γ (pc + 3) L (.ref a :: rest) k n) : eZ x E Q Γ pc L (.ref a :: rest) k n := by
  intro H locs ls hP hD hS hl T1 hT X
  obtain ⟨p, l', e, R, s, m, args, below, meth, c⟩ := x
  dsimp only at hT X hS
  have hK := C.2.2.2.2.2.2.2.1.1
  have hR : R = rm := C.2.2.2.2.2.2.2.2.1
  have hll : l' = l := C.2.2.2.2.2.2.2.2.2.1
  have hlt : l.stackTraces = false := C.2.2.2.2.2.2.2.2.2.2.1
  have hexec : p.tables.exec = Jvm.exec := C.1
  have hb : c.code = cc := C.2.1
  have hml : c.maxLocals = nL := C.2.2.1
  have hown : s.vm.findClass Bundle.tN = some m.cls := ho ▸ C.2.2.2.1
  have hts : ∀ w ∈ lw_all, w.before args s = true := C.2.2.2.2.1
  have htr : e.platform.stackTraces = false := (show e.platform.stackTraces = l'.stackTraces by rw [X.admits.platform]).trans (hll ▸ hlt)
  have howns : e.platform.frameOwnsMonitors = true := by rw [X.admits.platform]
  have hfin : e.platform.finalization = false := by rw [X.admits.platform]
  have hpl : e.platform.magicAccessors = ({} : Platform).magicAccessors := by rw [X.admits.platform]
  have hTA : ∀ w ∈ Bundle.throwableAtoms, w.before args s = true := eThA C
  obtain ⟨T0, Z0, Lk, -, Y⟩ := ThrowableC.of_atoms (args := args) howns hfin hpl hTA
  -- the object
  obtain ⟨i0, h1, h2⟩ := eBlk hΓ
  have hmf := hP.2 _ (List.mem_of_getElem? h1)
  have hAa : eA E a := hD.2 i0 _ h1
  obtain ⟨rr, g1, cell, c1, c2, c3, c4⟩ := hP.1 i0 _ h1
  have hrr : rr = (Cn, T, N) := Option.some.inj (g1.symm.trans K.1)
  subst hrr
  obtain ⟨hSl, hfc, kC, hkC, hkind⟩ := hK.1 ci _ K.1
  have hmon := eFr.mon c1 hmf
  have hcls : s.vm.findClass Cn = some cell.cls := by rw [c2]; exact hfc
  -- its fields stackTrace and backtrace
  obtain ⟨cf1, kf1, fi1, f1, hi1, hs1⟩ := hSl j1 hN1
  have hi1 : s.fieldFound? (T j1).1 (T j1).2.1 (T j1).2.2.1 = some (cf1, kf1, fi1, f1) := hi1
  rw [ht1] at hi1
  have e1 : f1 = T0.fStack := by have := hi1.symm.trans Y.stack; simp at this; exact this.2.2.2
  have hvS : cell.slots[T0.fStack.slot]? = some (va_rf r) := by
    rw [← e1, hs1, c4 j1 hN1]
    simp [vp_V, hf1]
  obtain ⟨ci198, i198, fB, hk198, hg198, ha198, hsB, -, hnB, htB, hffB⟩ := Cond.ownField (t := .object "java/lang/Object") Y.found Lk.cls (by decide +kernel) (hts _ q782) (hts _ q553) e.platform hpl
  obtain ⟨cf4, kf4, fi4, f4, hi4, hs4⟩ := hSl j4 hN4
  have hi4 : s.fieldFound? (T j4).1 (T j4).2.1 (T j4).2.2.1 = some (cf4, kf4, fi4, f4) := hi4
  rw [ht4] at hi4
  have e4 : f4 = fB := by have := hi4.symm.trans hffB; simp at this; exact this.2.2.2
  have hvB : cell.slots[fB.slot]? = some .null := by
    rw [← e4, hs4, c4 j4 hN4]
    simp [vp_V, hf4]
  -- the statics
  obtain ⟨cfU, kfU, fiU, fU, aU, cellU, u1, u2, u3, u4, u5, u6, u7, u8⟩ := hU
  have eU := u1.symm.trans Y.unassigned
  simp at eU
  obtain ⟨eU1, eU2, eU3, eU4⟩ := eU
  subst eU2
  have eA1 : aU = T0.aS := Option.some.inj (u4.symm.trans Lk.statics)
  subst eA1
  have hcS : H[T0.aS]? = some cellU := by rw [hS.2.1 _ (Array.getElem?_eq_some_iff.mp u5).1 u8]; exact u5
  have hneS : T0.aS ≠ a := fun q => u8 (q ▸ hAa)
  have hknS : cellU.vm ≠ .unknown := fun q => by rw [q] at u6; cases u6
  have hvU : cellU.slots[T0.fUnassigned.slot]? = some (va_rf r) := by rw [← eU4]; exact u7
  have hsel0 : selectMethod e.platform s.vm cell.cls T0.fill0 = .method T0.fill0 := by
    obtain ⟨cc2, r2, m2, z1, z2, z3, z4, -⟩ := Cond.selects_spec (hts _ q2)
    cases hcls.symm.trans z1
    cases (State.methodFound?_of_named Y.fill0 (by decide)).symm.trans z2
    cases Y.fill0.symm.trans z3
    rw [Launch.admits_selectMethod X.admits]; exact z4
  have hselF : selectMethod e.platform s.vm cell.cls T0.fill = .method T0.fill := by
    obtain ⟨cc2, r2, m2, z1, z2, z3, z4, -⟩ := Cond.selects_spec (hts _ q1)
    cases hcls.symm.trans z1
    cases (State.methodFound?_of_named Y.fill (by decide)).symm.trans z2
    cases Y.fill.symm.trans z3
    rw [Launch.admits_selectMethod X.admits]; exact z4
  obtain ⟨tyS, dS, hdS, hdnS⟩ := Cond.laysAt hfc hkC Y.stack (hts _ q3)
  have htS : Takes s cell T0.fStack (va_rf r) := by
    refine ⟨(Array.getElem?_eq_some_iff.mp hvS).1, ?_⟩
    have hv : fits T0.fStack.type (va_rf r) = true := by rw [Y.stackType]; cases r <;> rfl
    simp [State.fitsSlot, State.slotType?, c2, c3, hkC, hkind, tyS, hv]
  -- the call
  have hmF := Lk.method Lk.fillAt
  have hcell : T1.heap[a]? = some cell := by rw [hT]; exact c1
  obtain ⟨vm₁, X₁, hstep₁⟩ := X.invokevirtual hexec hown (hts _ q563) Y.fill hmF Lk.fillStatic Lk.cls Lk.notInterface (by decide) (a := a) (cell := cell) hcell (fun z h => by rw [c3] at h; cases h) hselF hmF Lk.fillAbstract Lk.cls Lk.notInterface
    (g := F0 m pc ls (.ref a :: rest)) rfl (argsL := []) (rest := rest) (by rw [Lk.fillParams]; rfl) rfl (by rw [hb]; exact d)
  have hsz : ls.size = c.maxLocals := by rw [hl.1.1, hL0, hml]
  have hfrR : 2 < R.frames := by rw [hR]; exact hfr
  have hloR : 2 * (F0 m pc ls rest).monitorRoom + ((F0 m pc ls rest).stack.map fun v => v.category).sum + 40 ≤ R.locals := by
    rw [hR]
    show 2 * 0 + (rest.map fun v => v.category).sum + 40 ≤ _
    omega
  have hroomF := X₁.notFull (g := F0 m pc ls rest) hsz (vars := 1 + 2) (by omega) (by omega)
  have hcell1 : (T1.setVm vm₁).heap[a]? = some cell := hcell
  obtain ⟨vm2, hW2, st⟩ := Steps.fillColdAnyV p (V := T1.setVm vm₁) (g := F0 m pc ls rest) (c := c) (self := a) (s₀ := s) X₁.here hexec T0 Lk X₁.warmed (Nn := fun u => u) heapOnly_id (fun _ _ => rfl) (fun _ => rfl) (fun u x y => setCell_twice _ _ _ _)
    (cell := cell) (cellS := cellU) (cN := cell.withEntry (T1.setVm vm₁).cur) (u0 := ⟨va_rf r, by cases r <;> rfl⟩) (ig := .invokevirtual 27) (len := 3) [] hcell1 (fun z h => by rw [c3] at h; cases h) (by rw [c3]; exact fun h => by cases h) (Or.inl hmon.1) hvS hsel0
    (by show T1.heap[T0.aS]? = _; rw [hT]; exact hcS) hneS hknS hvU (fun _ hu => hu) (fun _ hu => hu) rfl rfl rfl (by simp [Cell.withEntry]) htS (by rw [hb]; exact d)
    (fun hne vm1 hW1 hAt t' hs => Lk.nativeOff p htr hAt hW1 (by
      have htop : ((T1.setVm vm₁).setVm vm1).topJava?.isSome := X₁.here.top
      have htopE : (((T1.setVm vm₁).setVm vm1).setCell a (cell.withEntry ((T1.setVm vm₁).setVm vm1).cur)).topJava?.isSome := htop
      have hfF : (fillInside ((T1.setVm vm₁).setVm vm1) (F0 m pc ls rest) T0.fill a cell).frames = .java (entryFrameSync T0.fill #[.ref a] 1 a) :: .java (F0 m pc ls rest) :: T1.frames.tail := frames_entered (g := F0 m pc ls rest) htopE _
      have htopF : (fillInside ((T1.setVm vm₁).setVm vm1) (F0 m pc ls rest) T0.fill a cell).topJava?.isSome := by rw [State.topJava?_of_frames hfF]; rfl
      have hlimF : e.platform.stackLimits (fillInside ((T1.setVm vm₁).setVm vm1) (F0 m pc ls rest) T0.fill a cell).me = e.platform.stackLimits T1.me := by
        rw [State.stackLimits_pushFrame, State.stackLimits_setTop _ htopE]; rfl
      have hw13 : (stackUse [Frame.java (fillJ T0.fill a 16 [])]).2 = 14 := by
        rw [stackUse_java, stackUse_nil]
        simp [operandWords]
      have hfra := X.framesAbove (n := 2) hfrR
      have hwd := X.stackAbove (g := F0 m pc ls rest) hsz (K := 40) hloR
      obtain ⟨g₀, hfr0⟩ := X.frames_eq
      exact roomAbove (pl := e.platform) (u := (fillInside ((T1.setVm vm₁).setVm vm1) (F0 m pc ls rest) T0.fill a cell).setTop (fillJ T0.fill a 16 [])) (vars := nativeFrameWords "java/lang/Throwable" "fillInStackTrace" 2)
        (pushed := [.java (fillJ T0.fill a 16 [])]) (base := .java (F0 m pc ls rest) :: T1.frames.tail) (free := 40) (lim := e.platform.stackLimits T1.me) (State.frames_setTop _ hfF) (by rw [State.stackLimits_setTop _ htopF]; exact hlimF)
        (by rw [hfr0] at hfra ⊢; simp only [List.length_cons, List.length_nil, List.tail_cons] at hfra ⊢; omega) hwd (by rw [hw13]; decide)) hs)
    hroomF ⟨{ ci198 := ci198, i198 := i198, fBack := fB }, ⟨hk198, hg198, ha198, hsB⟩, hvB, fun _ _ => rfl⟩
  have hback : ((cell.withEntry (T1.setVm vm₁).cur).setSlot T0.fStack.slot (va_rf r)).left = cell := by
    have h1 : (cell.withEntry (T1.setVm vm₁).cur).setSlot T0.fStack.slot (va_rf r) = cell.withEntry (T1.setVm vm₁).cur := Cell.setSlot_same hvS
    rw [h1]
    exact Cell.left_withEntry _ hmon.1 hmon.2
  have hset : ∀ U : State, U.heap[a]? = some cell → U.setCell a cell = U := fun U hU => State.setCell_asItLies hU
  have X2 := X₁.noted hW2
  obtain ⟨t, a1, b1⟩ := kk H locs ls hP hD hS hl ((T1.setVm vm₁).setVm vm2) hT X2
  refine ⟨t, hstep₁ t (fun acts => ?_), b1⟩
  rw [doInvoke_state]
  refine st t ?_
  rw [hback, hset _ (by exact hcell1)]
  exact a1
end ZT
