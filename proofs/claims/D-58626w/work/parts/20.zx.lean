/-! ===== Z: methods that may throw, tables of handlers ===== -/
set_option maxRecDepth 100000
def eQT (E : eEn) (PX : Nat → String → List va_W → Prop) (rs : va_W) : Addr → String → State → State → Prop := fun q En st t =>
  (∃ Γ : List va_W, PX q En Γ ∧ eP E (eJ Γ rs) t.heap ∧ va_D (eA E) (eJ Γ rs)) ∧ va_F (eA E) st t
/-- a contract of a method that returns, or throws q, of the class En -/
def eMetX (l : Launch) (E : eEn) (y : MethodName) (ws : List Cond) (rm : Room) (args : List Value) (Γ : List va_W) (P : Option Value → List va_W → Prop) (PX : Nat → String → List va_W → Prop) : Prop :=
  ∀ rs : va_W, ew_Met l y ws rm (ePc E args Γ rs) (eQc E P rs) (eQT E PX rs) rm.cells rm.slots (eA E)
def eQX (x : eCx) (E : eEn) (P : Option Value → List va_W → Prop) (PX : Nat → String → List va_W → Prop) (rs : va_W) : State → Prop := ew_MQ (eBe x) (eQc E P rs) (eQT E PX rs) (eAr x) (eSt x) (eRo x).cells (eRo x).slots (eA E)
/-- a place in a method, q thrown over it -/
def eY (x : eCx) (E : eEn) (Q : State → Prop) (Γ : List va_W) (pc : Nat) (L : List (Option Value)) (st : List Value) (q : Nat) (k n : Nat) : Prop :=
  ∀ (H : Heap) (locs : List Loc) (ls : Array Slot), eP E Γ.flatten H → va_D (eA E) Γ.flatten → va_S (eA E) (eSt x).heap H locs → eL ls L →
    vx_W x.1 x.2.1 x.2.2.1 x.2.2.2.1 x.2.2.2.2.1 x.2.2.2.2.2.1 x.2.2.2.2.2.2.1 x.2.2.2.2.2.2.2.1 x.2.2.2.2.2.2.2.2.1 x.2.2.2.2.2.2.2.2.2 H locs k n Q (F0 (eMi x) pc ls st) q
def eTab (x : eCx) (hh : List (Nat × Nat × Nat × Nat)) : Prop := (eCo x).exceptionTable.toList = tableOf hh
set_option maxHeartbeats 1000000 in
theorem eStartX {l : Launch} {E : eEn} {y : MethodName} {cc : ByteArray} {nL : Nat} {rt : Option FieldType} {rm : Room} {args : List Value} {Γ : List va_W} {P : Option Value → List va_W → Prop} {PX : Nat → String → List va_W → Prop} (hl : l.stackTraces = false) (hy : plainName y.cls = true) {L : List (Option Value)} (hL : args.map some ++ List.replicate (nL - args.length) none = L) (hc : ∀ v ∈ args, v.category = 1) (hn : args.length ≤ nL)
    (body : ∀ (x : eCx) (rs : va_W), eOk x E l y cc nL rt rm → eTab x [] → eZ x E (eQX x E P PX rs) (Γ ++ [rs]) 0 L [] 0 0) : eMetX l E y (ws_ y cc nL rt) rm args Γ P PX := by
  intro rs
  refine ew_ofW (cc := cc) (maxL := nL) (ret := rt) hy rfl ?_
  intro p e s m args' below meth c s₁ B hml hT hv
  obtain ⟨rfl, hE, hP, hD⟩ := hv
  have hts := atoms_spec (ws := ws_ y cc nL rt) B.pre
  have hts : ∀ w ∈ lw_all, w.before args.toArray s = true := fun w h => hts w (List.mem_cons_of_mem _ h)
  have h := body (p, l, e, (headSpec (ws_ y cc nL rt) rm).room, s, m, args.toArray, below, meth, c) rs ⟨B.exec, B.bytes, hml, findClass_of_methodNamed B.named, hts, B.returns, B.notSynchronized, hE, rfl, rfl, hl, (name_of_methodNamed B.named B.method).1⟩ hT
  have h2 := h s.heap [] _ hP hD va_S.rf (by rw [← hL]; exact eL.start hc hn)
  rw [lg_entry_eq]
  exact h2
set_option maxHeartbeats 1000000 in
theorem eStartW {l : Launch} {E : eEn} {y : MethodName} {cc : ByteArray} {nL : Nat} {rt : Option FieldType} {hh : List (Nat × Nat × Nat × Nat)} {rm : Room} {args : List Value} {Γ : List va_W} {P : Option Value → List va_W → Prop} {PX : Nat → String → List va_W → Prop} (hl : l.stackTraces = false) (hy : plainName y.cls = true) {L : List (Option Value)} (hL : args.map some ++ List.replicate (nL - args.length) none = L) (hc : ∀ v ∈ args, v.category = 1) (hn : args.length ≤ nL)
    (body : ∀ (x : eCx) (rs : va_W), eOk x E l y cc nL rt rm → eTab x hh → eZ x E (eQX x E P PX rs) (Γ ++ [rs]) 0 L [] 0 0) : eMetX l E y (wsW_ y cc nL rt hh) rm args Γ P PX := by
  intro rs
  refine ew_ofWW (cc := cc) (maxL := nL) (ret := rt) (hh := hh) hy rfl ?_
  intro p e s m args' below meth c s₁ B hml hT hv
  obtain ⟨rfl, hE, hP, hD⟩ := hv
  have hts := atoms_spec (ws := wsW_ y cc nL rt hh) B.pre
  have hts : ∀ w ∈ lw_all, w.before args.toArray s = true := fun w h => hts w (List.mem_cons_of_mem _ h)
  have h := body (p, l, e, (headSpec (wsW_ y cc nL rt hh) rm).room, s, m, args.toArray, below, meth, c) rs ⟨B.exec, B.bytes, hml, findClass_of_methodNamed B.named, hts, B.returns, B.notSynchronized, hE, rfl, rfl, hl, (name_of_methodNamed B.named B.method).1⟩ hT
  have h2 := h s.heap [] _ hP hD va_S.rf (by rw [← hL]; exact eL.start hc hn)
  rw [lg_entry_eq]
  exact h2
section ZX
variable {x : eCx} {E : eEn} {l : Launch} {Q : State → Prop} {P : Option Value → List va_W → Prop} {PX : Nat → String → List va_W → Prop} {rs : va_W} {Γ Γ1 Δ : List va_W} {pc : Nat} {L : List (Option Value)} {rest st : List Value} {k n : Nat} {y y' : MethodName} {cc bytes : ByteArray} {nL maxL idx : Nat} {rt ret : Option FieldType} {rm rm' : Room} {As : List Value} {own : String} {b : Nat}
theorem z_X (kk : eZ x E (eQ x E P rs) Γ pc L st k n) : eZ x E (eQX x E P PX rs) Γ pc L st k n := fun H locs ls hP hD hS hl => ew_ret (kk H locs ls hP hD hS hl)
theorem z_throw {q : Nat} (C : eOk x E l y cc nL rt rm) (d : decode cc pc = .ok (.athrow, 1)) (kk : eY x E Q Γ pc L rest q k n) : eZ x E Q Γ pc L (.ref q :: rest) k n :=
  fun H locs ls hP hD hS hl => vx_athrow C.1 C.2.1 d (kk H locs ls hP hD hS hl)
theorem eThrown {q ci : Nat} {fs : List Value} {r : vw_C} {H : Heap} (C : eOk x E l y cc nL rt rm) (hP : eP E Γ.flatten H) (hb : (q, (.inr (ci, fs) : va_E)) ∈ Γ.flatten) (hc : eCl[ci]? = some r) : ∃ cell : Cell, H[q]? = some cell ∧ cell.vm = .none ∧ (eSt x).vm.findClass r.1 = some cell.cls := by
  obtain ⟨rr, g1, cell, c1, c2, c3, c4⟩ := eP_iff.mp hP.1 _ hb
  cases g1.symm.trans hc
  obtain ⟨hSl, hfc, -⟩ := C.2.2.2.2.2.2.2.1.1.1 ci _ hc
  exact ⟨cell, c1, c3, by rw [c2]; exact hfc⟩
/-- nobody catches it here -/
theorem z_out {q ci : Nat} {fs : List Value} {r : vw_C} {hh : List (Nat × Nat × Nat × Nat)} (C : eOk x E l y cc nL rt rm) (hT : eTab x hh) (hout : ∀ z ∈ tableOf hh, covers z pc = false) (hb : (q, (.inr (ci, fs) : va_E)) ∈ (Γ ++ [rs]).flatten) (hc : eCl[ci]? = some r) (h1 : k ≤ rm.cells) (h2 : n ≤ rm.slots) (hP : PX q r.1 Γ) : eY x E (eQX x E P PX rs) (Γ ++ [rs]) pc L st q k n := by
  intro H locs ls hP0 hD hS hl
  have hR := C.2.2.2.2.2.2.2.2.1
  obtain ⟨cell, c1, c2, c3⟩ := eThrown C hP0 hb hc
  exact ew_out (fun z hz => hout z (by rw [eTab] at hT; rw [← hT]; exact hz)) C.2.2.2.2.2.2.1 c1 c2 c3 (fun t ht hW => ⟨⟨Γ, hP, by rw [ht]; exact hP0, hD⟩, hS.F ht⟩) hS.2.2 (by rw [hR]; exact h1) (by rw [hR]; exact h2)
/-- caught by this method's one handler -/
theorem z_catch {q ci a0 b0 h0 ct : Nat} {fs : List Value} {r : vw_C} {nm : String} (C : eOk x E l y cc nL rt rm) (hT : eTab x [(a0, b0, h0, ct)]) (hcov : covers ⟨a0, b0, h0, ct⟩ pc = true) (hct : ct ≠ 0) (ho : y.cls = own) (ql : Cond.classLink own ct nm ∈ lw_all) (qc : Cond.castable r.1 nm ∈ lw_tbl) (hb : (q, (.inr (ci, fs) : va_E)) ∈ Γ.flatten) (hc : eCl[ci]? = some r)
    (kk : eZ x E Q Γ h0 L [.ref q] k n) : eY x E Q Γ pc L st q k n := by
  intro H locs ls hP hD hS hl
  obtain ⟨cell, c1, c2, c3⟩ := eThrown C hP hb hc
  have hcast : (Cond.castable r.1 nm).before #[] (eSt x) = true := C.2.2.2.2.2.2.2.1.2.2.1 _ (eNw_in qc rfl)
  exact vx_catch (own := own) (name := nm) (E := r.1) (ho ▸ C.2.2.2.1) [] ⟨a0, b0, h0, ct⟩ [] hT (fun z hz => absurd hz List.not_mem_nil) hcov hct (C.2.2.2.2.1 _ ql) (va_tabs rfl rfl hcast) c1 c2 c3 (kk H locs ls hP hD hS hl)
theorem y_go {q : Nat} {Γ' : List va_W} (e : Γ = Γ') (kk : eY x E Q Γ' pc L st q k n) : eY x E Q Γ pc L st q k n := e ▸ kk
theorem y_perm {q : Nat} {Γ' : List va_W} (h : Γ.flatten.Perm Γ'.flatten) (kk : eY x E Q Γ' pc L st q k n) : eY x E Q Γ pc L st q k n :=
  fun H locs ls hP hD hS hl => kk H locs ls (eP_perm h hP) (eD_perm h hD) hS hl
theorem y_pick {q : Nat} {Γ' : List va_W} (ks : List Nat) (h : ks.isPerm (List.range Γ.length) = true) (hΓ : ePick Γ ks = Γ') (kk : eY x E Q Γ' pc L st q k n) : eY x E Q Γ pc L st q k n :=
  y_perm (by rw [← hΓ]; exact ePick_perm h) kk
theorem y_wide {q k' n' : Nat} (h1 : k ≤ k') (h2 : n ≤ n') (kk : eY x E Q Γ pc L st q k' n') : eY x E Q Γ pc L st q k n :=
  fun H locs ls hP hD hS hl => vx_widen h1 h2 (kk H locs ls hP hD hS hl)
end ZX
section ZXR
variable {p : Program} {l : Launch} {e : Env} {R : Room} {s : State} {m : MethodId} {args : Array Value} {below : List Frame} {meth : Method} {c : Code} {H : Heap} {locs : List Loc} {k n mc ms : Nat} {Q : State → Prop} {pc : Nat} {ls : Array Slot} {rest st0 : List Value} {a : Array Value} {E : eEn} {P : Option Value → List va_W → Prop} {PX : Nat → String → List va_W → Prop} {rs : va_W}
theorem eRunX (hr : ew_Run p l e R s m args below meth c H locs k n mc ms (F0 m pc ls st0) rest (eQc E P rs a) (eQT E PX rs) (eA E)) (hS : va_S (eA E) s.heap H locs)
    (kx : ∀ (q : Nat) (En : String) (Γ2 : List va_W) (H1 : Heap) (locs1 : List Loc), PX q En Γ2 → eP E (eJ Γ2 rs) H1 → va_D (eA E) (eJ Γ2 rs) → va_S (eA E) s.heap H1 locs1 → vx_W p l e R s m args below meth c H1 locs1 (k + mc) (n + ms) Q (F0 m pc ls rest) q)
    (kk : ∀ (v : Option Value) (Γ2 : List va_W) (H1 : Heap) (locs1 : List Loc), P v Γ2 → eP E (eJ Γ2 rs) H1 → va_D (eA E) (eJ Γ2 rs) → va_S (eA E) s.heap H1 locs1 → W p l e R s m args below meth c H1 locs1 (k + mc) (n + ms) Q (F0 m (pc + 3) ls (v.toList ++ rest))) : W p l e R s m args below meth c H locs k n Q (F0 m pc ls st0) := by
  intro T hT X
  rcases hr T hT X with ⟨v, st₀, t, T', L, h0, X', hL, e1, e2, ⟨⟨v', Γ2, hv, hp, hP, hD⟩, hz, hk⟩, st⟩ | ⟨q, st₀, t, T', L, En, ce, h0, X', hL, e1, e2, ⟨⟨Γ2, hp, hP, hD⟩, hz, hk⟩, hce, hcv, hcl, st⟩
  · cases hv
    rw [h0] at hz hk
    obtain ⟨t2, a1, b1⟩ := kk v Γ2 T'.heap (locs ++ L) hp (by rw [e1]; exact hP) hD
      ⟨Nat.le_trans hS.1 (by rw [e1]; exact hz), fun q h1 h2 => by rw [e1, hk q (Nat.lt_of_lt_of_le h1 hS.1) h2]; exact hS.2.1 q h1 h2, fun q hq => by
        rcases List.mem_append.mp hq with h | h
        · exact hS.2.2 q h
        · exact hL q h⟩ T' rfl X'
    exact ⟨t2, st t2 a1, b1⟩
  · rw [h0] at hz hk
    obtain ⟨t2, a1, b1⟩ := kx q En Γ2 T'.heap (locs ++ L) hp (by rw [e1]; exact hP) hD
      ⟨Nat.le_trans hS.1 (by rw [e1]; exact hz), fun q h1 h2 => by rw [e1, hk q (Nat.lt_of_lt_of_le h1 hS.1) h2]; exact hS.2.1 q h1 h2, fun q hq => by
        rcases List.mem_append.mp hq with h | h
        · exact hS.2.2 q h
        · exact hL q h⟩ T' rfl X'
    exact ⟨t2, st.trans a1, b1⟩
end ZXR
section ZXC
variable {x : eCx} {E : eEn} {l : Launch} {Q : State → Prop} {P : Option Value → List va_W → Prop} {PX : Nat → String → List va_W → Prop} {Γ Γ1 Δ : List va_W} {pc : Nat} {L : List (Option Value)} {rest st : List Value} {k n : Nat} {y y' : MethodName} {cc bytes : ByteArray} {nL maxL idx : Nat} {rt ret : Option FieldType} {rm rm' : Room} {As : List Value} {own : String} {b : Nat}
theorem z_callVX {ci : Nat} {fs : List Value} {r : vw_C} (k1 k2 : List Nat) (nA : Nat) (hM : eMetX l E y' (ws_ y' bytes maxL ret) rm' (.ref b :: As) Γ1 P PX) (C : eOk x E l y cc nL rt rm) (d : decode cc pc = .ok (.invokevirtual idx, 3)) (hL0 : L.length = nL) (hst : st = As.reverse ++ .ref b :: rest) (hb : (b, (.inr (ci, fs) : va_E)) ∈ Γ.flatten) (hc : eCl[ci]? = some r) (ho : y.cls = own) (q1 : Cond.methodLink own idx y' ∈ lw_all) (q2 : Cond.instanceMethod y' ∈ lw_all) (q3 : Cond.selects r.1 y' y' ∈ lw_all) (q4 : Cond.initialized r.1 ∈ lw_all) (q5 : Cond.code y' bytes maxL ret ∈ lw_all)
    (hd : y'.cls = r.1 ∧ y'.cls ≠ "java/lang/invoke/MethodHandle" ∧ y'.cls ≠ "java/lang/invoke/VarHandle" ∧ (parseMethodDescriptor y'.desc).map (fun d => d.parameters.length) = some nA) (hn : As.length = nA) (hp : (k1 ++ k2).isPerm (List.range Γ.length) = true) (h1 : ePick Γ k1 = Γ1) (h2 : ePick Γ k2 = Δ) (hf : rm'.frames + 1 ≤ rm.frames ∧ 8 + (maxL + 11) + rm'.locals ≤ rm.locals) (hr : (rest.map fun v => v.category).sum ≤ 8) (hk : k + rm'.cells ≤ rm.cells ∧ n + rm'.slots ≤ rm.slots)
    (kx : ∀ (q : Nat) (En : String) (Γ2 : List va_W), PX q En Γ2 → eY x E Q (Γ2 ++ Δ) pc L rest q (k + rm'.cells) (n + rm'.slots))
    (kk : ∀ (v : Option Value) (Γ2 : List va_W), P v Γ2 → eZ x E Q (Γ2 ++ Δ) (pc + 3) L (v.toList ++ rest) (k + rm'.cells) (n + rm'.slots)) : eZ x E Q Γ pc L st k n := by
  intro H locs ls hP hD hS hl
  have hR := C.2.2.2.2.2.2.2.2.1
  have hll := C.2.2.2.2.2.2.2.2.2.1
  subst hst
  refine eRunX (ew_runV (As := As) (rest := rest) (cc := cc) (nL := nL) (Ts := lw_all) (own := own) ⟨C.1, C.2.1, C.2.2.1, ho ▸ C.2.2.2.1, C.2.2.2.2.1⟩ (hll ▸ hM Δ.flatten) (cwV (R := eRo x) nA C.2.2.2.2.1 (lw_V q1 q2 q3 q4 q5) rfl rfl rfl hd (by rw [hR]; exact hf)) ⟨ePc.blind, eRecv C hP hb hc, eCallPre C hP hD hS hp h1 h2⟩ rfl hn (by rw [hl.1.1, hL0]) rfl (lv_room hr) d (by show k + _ ≤ (eRo x).cells ∧ n + _ ≤ (eRo x).slots; rw [hR]; exact hk)) hS (fun q En Γ2 H1 locs1 hp hP1 hD1 hS1 => by rw [eJ_fl] at hP1 hD1; exact kx q En Γ2 hp H1 locs1 ls hP1 hD1 hS1 hl) (fun v Γ2 H1 locs1 hp hP1 hD1 hS1 => ?_)
  rw [eJ_fl] at hP1 hD1
  exact kk v Γ2 hp H1 locs1 ls hP1 hD1 hS1 hl
theorem z_callSX (k1 k2 : List Nat) (nA : Nat) (hM : eMetX l E y' (ws_ y' bytes maxL ret) rm' As Γ1 P PX) (C : eOk x E l y cc nL rt rm) (d : decode cc pc = .ok (.invokestatic idx, 3)) (hL0 : L.length = nL) (hst : st = As.reverse ++ rest) (ho : y.cls = own) (q1 : Cond.methodLink own idx y' ∈ lw_all) (q2 : Cond.static y' ∈ lw_all) (q4 : Cond.initialized y'.cls ∈ lw_all) (q5 : Cond.code y' bytes maxL ret ∈ lw_all)
    (hd : y'.cls ≠ "java/lang/invoke/MethodHandle" ∧ y'.cls ≠ "java/lang/invoke/VarHandle" ∧ (parseMethodDescriptor y'.desc).map (fun d => d.parameters.length) = some nA) (hn : As.length = nA) (hp : (k1 ++ k2).isPerm (List.range Γ.length) = true) (h1 : ePick Γ k1 = Γ1) (h2 : ePick Γ k2 = Δ) (hf : rm'.frames + 1 ≤ rm.frames ∧ 8 + (maxL + 11) + rm'.locals ≤ rm.locals) (hr : (rest.map fun v => v.category).sum ≤ 8) (hk : k + rm'.cells ≤ rm.cells ∧ n + rm'.slots ≤ rm.slots)
    (kx : ∀ (q : Nat) (En : String) (Γ2 : List va_W), PX q En Γ2 → eY x E Q (Γ2 ++ Δ) pc L rest q (k + rm'.cells) (n + rm'.slots))
    (kk : ∀ (v : Option Value) (Γ2 : List va_W), P v Γ2 → eZ x E Q (Γ2 ++ Δ) (pc + 3) L (v.toList ++ rest) (k + rm'.cells) (n + rm'.slots)) : eZ x E Q Γ pc L st k n := by
  intro H locs ls hP hD hS hl
  have hR := C.2.2.2.2.2.2.2.2.1
  have hll := C.2.2.2.2.2.2.2.2.2.1
  subst hst
  refine eRunX (ew_runS (As := As) (rest := rest) (cc := cc) (nL := nL) (Ts := lw_all) (own := own) ⟨C.1, C.2.1, C.2.2.1, ho ▸ C.2.2.2.1, C.2.2.2.2.1⟩ (hll ▸ hM Δ.flatten) (va_cwS (R := eRo x) nA C.2.2.2.2.1 (lw_S q1 q2 q4 q5) rfl rfl rfl hd (by rw [hR]; exact hf)) ⟨ePc.blind, eCallPre C hP hD hS hp h1 h2⟩ rfl hn (by rw [hl.1.1, hL0]) rfl (lv_room hr) d (by show k + _ ≤ (eRo x).cells ∧ n + _ ≤ (eRo x).slots; rw [hR]; exact hk)) hS (fun q En Γ2 H1 locs1 hp hP1 hD1 hS1 => by rw [eJ_fl] at hP1 hD1; exact kx q En Γ2 hp H1 locs1 ls hP1 hD1 hS1 hl) (fun v Γ2 H1 locs1 hp hP1 hD1 hS1 => ?_)
  rw [eJ_fl] at hP1 hD1
  exact kk v Γ2 hp H1 locs1 ls hP1 hD1 hS1 hl
theorem z_callSNX {host : String} (k1 k2 : List Nat) (nA : Nat) (hM : eMetX l E y' (ws_ y' bytes maxL ret) rm' As Γ1 P PX) (C : eOk x E l y cc nL rt rm) (d : decode cc pc = .ok (.invokestatic idx, 3)) (hL0 : L.length = nL) (hst : st = As.reverse ++ rest) (ho : y.cls = own) (q1 : Cond.methodLinkNest own idx y' host ∈ lw_tbl) (q2 : Cond.static y' ∈ lw_all) (q4 : Cond.initialized y'.cls ∈ lw_all) (q5 : Cond.code y' bytes maxL ret ∈ lw_all)
    (hd : y'.cls ≠ "java/lang/invoke/MethodHandle" ∧ y'.cls ≠ "java/lang/invoke/VarHandle" ∧ (parseMethodDescriptor y'.desc).map (fun d => d.parameters.length) = some nA) (hn : As.length = nA) (hp : (k1 ++ k2).isPerm (List.range Γ.length) = true) (h1 : ePick Γ k1 = Γ1) (h2 : ePick Γ k2 = Δ) (hf : rm'.frames + 1 ≤ rm.frames ∧ 8 + (maxL + 11) + rm'.locals ≤ rm.locals) (hr : (rest.map fun v => v.category).sum ≤ 8) (hk : k + rm'.cells ≤ rm.cells ∧ n + rm'.slots ≤ rm.slots)
    (kx : ∀ (q : Nat) (En : String) (Γ2 : List va_W), PX q En Γ2 → eY x E Q (Γ2 ++ Δ) pc L rest q (k + rm'.cells) (n + rm'.slots))
    (kk : ∀ (v : Option Value) (Γ2 : List va_W), P v Γ2 → eZ x E Q (Γ2 ++ Δ) (pc + 3) L (v.toList ++ rest) (k + rm'.cells) (n + rm'.slots)) : eZ x E Q Γ pc L st k n := by
  intro H locs ls hP hD hS hl
  have hR := C.2.2.2.2.2.2.2.2.1
  have hll := C.2.2.2.2.2.2.2.2.2.1
  subst hst
  refine eRunX (ew_runSN (As := As) (rest := rest) (cc := cc) (nL := nL) (Ts := lw_all) (own := own) ⟨C.1, C.2.1, C.2.2.1, ho ▸ C.2.2.2.1, C.2.2.2.2.1⟩ (hll ▸ hM Δ.flatten) ⟨va_cnB (R := eRo x) nA C.2.2.2.2.1 (lw_meth q5) rfl rfl rfl (C.2.2.2.2.2.2.2.1.2.2.1 _ (eNw_in q1 rfl)) (C.2.2.2.2.1 _ q4) hd (by rw [hR]; exact hf), C.2.2.2.2.1 _ q2, trivial⟩ ⟨ePc.blind, eCallPre C hP hD hS hp h1 h2⟩ rfl hn (by rw [hl.1.1, hL0]) rfl (lv_room hr) d (by show k + _ ≤ (eRo x).cells ∧ n + _ ≤ (eRo x).slots; rw [hR]; exact hk)) hS (fun q En Γ2 H1 locs1 hp hP1 hD1 hS1 => by rw [eJ_fl] at hP1 hD1; exact kx q En Γ2 hp H1 locs1 ls hP1 hD1 hS1 hl) (fun v Γ2 H1 locs1 hp hP1 hD1 hS1 => ?_)
  rw [eJ_fl] at hP1 hD1
  exact kk v Γ2 hp H1 locs1 ls hP1 hD1 hS1 hl
theorem z_callWX {hh : List (Nat × Nat × Nat × Nat)} {ci : Nat} {fs : List Value} {r : vw_C} (k1 k2 : List Nat) (nA : Nat) (hM : eMetX l E y' (wsW_ y' bytes maxL ret hh) rm' (.ref b :: As) Γ1 P PX) (C : eOk x E l y cc nL rt rm) (d : decode cc pc = .ok (.invokevirtual idx, 3)) (hL0 : L.length = nL) (hst : st = As.reverse ++ .ref b :: rest) (hb : (b, (.inr (ci, fs) : va_E)) ∈ Γ.flatten) (hc : eCl[ci]? = some r) (ho : y.cls = own) (q1 : Cond.methodLink own idx y' ∈ lw_all) (q2 : Cond.instanceMethod y' ∈ lw_all) (q3 : Cond.selects r.1 y' y' ∈ lw_all) (q4 : Cond.initialized r.1 ∈ lw_all) (q5 : Cond.codeWith y' bytes maxL ret hh ∈ lw_all)
    (hd : y'.cls = r.1 ∧ y'.cls ≠ "java/lang/invoke/MethodHandle" ∧ y'.cls ≠ "java/lang/invoke/VarHandle" ∧ (parseMethodDescriptor y'.desc).map (fun d => d.parameters.length) = some nA) (hn : As.length = nA) (hp : (k1 ++ k2).isPerm (List.range Γ.length) = true) (h1 : ePick Γ k1 = Γ1) (h2 : ePick Γ k2 = Δ) (hf : rm'.frames + 1 ≤ rm.frames ∧ 8 + (maxL + 11) + rm'.locals ≤ rm.locals) (hr : (rest.map fun v => v.category).sum ≤ 8) (hk : k + rm'.cells ≤ rm.cells ∧ n + rm'.slots ≤ rm.slots)
    (kx : ∀ (q : Nat) (En : String) (Γ2 : List va_W), PX q En Γ2 → eY x E Q (Γ2 ++ Δ) pc L rest q (k + rm'.cells) (n + rm'.slots))
    (kk : ∀ (v : Option Value) (Γ2 : List va_W), P v Γ2 → eZ x E Q (Γ2 ++ Δ) (pc + 3) L (v.toList ++ rest) (k + rm'.cells) (n + rm'.slots)) : eZ x E Q Γ pc L st k n := by
  intro H locs ls hP hD hS hl
  have hR := C.2.2.2.2.2.2.2.2.1
  have hll := C.2.2.2.2.2.2.2.2.2.1
  subst hst
  refine eRunX (ew_runVX (As := As) (rest := rest) (cc := cc) (nL := nL) (Ts := lw_all) (own := own) ⟨C.1, C.2.1, C.2.2.1, ho ▸ C.2.2.2.1, C.2.2.2.2.1⟩ (hll ▸ hM Δ.flatten) (vx_cwVW (R := eRo x) nA C.2.2.2.2.1 (lw_VW q1 q2 q3 q4 q5) rfl rfl rfl hd (by rw [hR]; exact hf)) ⟨ePc.blind, eRecv C hP hb hc, eCallPre C hP hD hS hp h1 h2⟩ rfl hn (by rw [hl.1.1, hL0]) rfl (lv_room hr) d (by show k + _ ≤ (eRo x).cells ∧ n + _ ≤ (eRo x).slots; rw [hR]; exact hk)) hS (fun q En Γ2 H1 locs1 hp hP1 hD1 hS1 => by rw [eJ_fl] at hP1 hD1; exact kx q En Γ2 hp H1 locs1 ls hP1 hD1 hS1 hl) (fun v Γ2 H1 locs1 hp hP1 hD1 hS1 => ?_)
  rw [eJ_fl] at hP1 hD1
  exact kk v Γ2 hp H1 locs1 ls hP1 hD1 hS1 hl
end ZXC
