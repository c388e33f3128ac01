/-! ===== Z: ends and calls ===== -/
set_option maxRecDepth 100000
section ZE
variable {x : eCx} {E : eEn} {l : Launch} {Q : State → Prop} {P : Option Value → List va_W → Prop} {rs : va_W} {Γ Γ1 : List va_W} {pc : Nat} {L : List (Option Value)} {rest : List Value} {k n : Nat} {y : MethodName} {cc : ByteArray} {nL : Nat} {rt : Option FieldType} {rm : Room}
theorem z_ret {v : Int32} {ty : FieldType} (C : eOk x E l y cc nL rt rm) (d : decode cc pc = .ok (.ireturn, 1)) (hr : rt = some ty) (hn : narrow ty (.int v) = .int v) (h1 : k ≤ rm.cells) (h2 : n ≤ rm.slots) (hP : P (some (.int v)) Γ) : eZ x E (eQ x E P rs) (Γ ++ [rs]) pc L [.int v] k n := by
  intro H locs ls hP0 hD hS hl
  have hR := C.2.2.2.2.2.2.2.2.1
  refine W.widen (k := (eRo x).cells) (n := (eRo x).slots) (by rw [hR]; exact h1) (by rw [hR]; exact h2) ?_
  exact W.zret (v := v) C.1 C.2.1 (C.2.2.2.2.2.1.trans hr) hn (fun t ht hW => ⟨⟨_, Γ, rfl, hP, by rw [ht]; exact hP0, hD⟩, hS.F ht⟩) hS.2.2 d C.2.2.2.2.2.2.1
theorem z_vret (C : eOk x E l y cc nL rt rm) (d : decode cc pc = .ok (.return_, 1)) (hr : rt = none) (h1 : k ≤ rm.cells) (h2 : n ≤ rm.slots) (hP : P none Γ) : eZ x E (eQ x E P rs) (Γ ++ [rs]) pc L [] k n := by
  intro H locs ls hP0 hD hS hl
  have hR := C.2.2.2.2.2.2.2.2.1
  refine W.widen (k := (eRo x).cells) (n := (eRo x).slots) (by rw [hR]; exact h1) (by rw [hR]; exact h2) ?_
  exact W.vret C.1 C.2.1 (C.2.2.2.2.2.1.trans hr) (fun t ht hW => ⟨⟨_, Γ, rfl, hP, by rw [ht]; exact hP0, hD⟩, hS.F ht⟩) hS.2.2 d C.2.2.2.2.2.2.1
theorem z_aret {v : Value} {ty : FieldType} (C : eOk x E l y cc nL rt rm) (d : decode cc pc = .ok (.areturn, 1)) (hr : rt = some ty) (hy : (∃ nm, ty = .object nm) ∨ ∃ t, ty = .array t) (hv : v = .null ∨ ∃ a, v = .ref a) (h1 : k ≤ rm.cells) (h2 : n ≤ rm.slots) (hP : P (some v) Γ) : eZ x E (eQ x E P rs) (Γ ++ [rs]) pc L [v] k n := by
  intro H locs ls hP0 hD hS hl
  have hR := C.2.2.2.2.2.2.2.2.1
  refine W.widen (k := (eRo x).cells) (n := (eRo x).slots) (by rw [hR]; exact h1) (by rw [hR]; exact h2) ?_
  exact W.aret (v := v) C.1 C.2.1 (C.2.2.2.2.2.1.trans hr) hy hv (fun t ht hW => ⟨⟨_, Γ, rfl, hP, by rw [ht]; exact hP0, hD⟩, hS.F ht⟩) hS.2.2 d C.2.2.2.2.2.2.1
end ZE
section ZCR
variable {p : Program} {l : Launch} {e : Env} {R : Room} {s : State} {m : MethodId} {args : Array Value} {below : List Frame} {meth : Method} {c : Code} {H : Heap} {locs : List Loc} {k n mc ms : Nat} {Q : State → Prop} {pc : Nat} {ls : Array Slot} {rest st0 : List Value} {a : Array Value} {E : eEn} {P : Option Value → List va_W → Prop} {rs : va_W}
theorem eRun (hr : va_Run p l e R s m args below meth c H locs k n mc ms (F0 m pc ls st0) rest (eQc E P rs a) (eA E)) (hS : va_S (eA E) s.heap H locs)
    (kk : ∀ (v : Option Value) (Γ2 : List va_W) (H1 : Heap) (locs1 : List Loc), P v Γ2 → eP E (eJ Γ2 rs) H1 → va_D (eA E) (eJ Γ2 rs) → va_S (eA E) s.heap H1 locs1 → W p l e R s m args below meth c H1 locs1 (k + mc) (n + ms) Q (F0 m (pc + 3) ls (v.toList ++ rest))) : W p l e R s m args below meth c H locs k n Q (F0 m pc ls st0) := by
  intro T hT X
  obtain ⟨v, st₀, t, T', L, h0, X', hL, e1, e2, ⟨⟨v', Γ2, hv, hp, hP, hD⟩, hz, hk⟩, st⟩ := hr T hT X
  cases hv
  rw [h0] at hz hk
  obtain ⟨t2, a1, b1⟩ := kk v Γ2 T'.heap (locs ++ L) hp (by rw [e1]; exact hP) hD
    ⟨Nat.le_trans hS.1 (by rw [e1]; exact hz), fun q h1 h2 => by rw [e1, hk q (Nat.lt_of_lt_of_le h1 hS.1) h2]; exact hS.2.1 q h1 h2, fun q hq => by
      rcases List.mem_append.mp hq with h | h
      · exact hS.2.2 q h
      · exact hL q h⟩ T' rfl X'
  exact ⟨t2, st t2 a1, b1⟩
theorem eRun5 (hr : va_Run5 p l e R s m args below meth c H locs k n mc ms (F0 m pc ls st0) rest (eQc E P rs a) (eA E)) (hS : va_S (eA E) s.heap H locs)
    (kk : ∀ (v : Option Value) (Γ2 : List va_W) (H1 : Heap) (locs1 : List Loc), P v Γ2 → eP E (eJ Γ2 rs) H1 → va_D (eA E) (eJ Γ2 rs) → va_S (eA E) s.heap H1 locs1 → W p l e R s m args below meth c H1 locs1 (k + mc) (n + ms) Q (F0 m (pc + 5) ls (v.toList ++ rest))) : W p l e R s m args below meth c H locs k n Q (F0 m pc ls st0) := by
  intro T hT X
  obtain ⟨v, st₀, t, T', L, h0, X', hL, e1, e2, ⟨⟨v', Γ2, hv, hp, hP, hD⟩, hz, hk⟩, st⟩ := hr T hT X
  cases hv
  rw [h0] at hz hk
  obtain ⟨t2, a1, b1⟩ := kk v Γ2 T'.heap (locs ++ L) hp (by rw [e1]; exact hP) hD
    ⟨Nat.le_trans hS.1 (by rw [e1]; exact hz), fun q h1 h2 => by rw [e1, hk q (Nat.lt_of_lt_of_le h1 hS.1) h2]; exact hS.2.1 q h1 h2, fun q hq => by
      rcases List.mem_append.mp hq with h | h
      · exact hS.2.2 q h
      · exact hL q h⟩ T' rfl X'
  exact ⟨t2, st t2 a1, b1⟩
end ZCR
theorem eJ_cut {Γ Γ1 Δ : List va_W} {k1 k2 : List Nat} (hp : (k1 ++ k2).isPerm (List.range Γ.length) = true) (h1 : ePick Γ k1 = Γ1) (h2 : ePick Γ k2 = Δ) : Γ.flatten.Perm (eJ Γ1 Δ.flatten) := by
  have h := ePick_perm hp
  rw [ePick_app, h1, h2, List.flatten_append] at h
  rw [eJ, List.flatten_append]
  simpa using h
theorem eJ_fl {Γ2 Δ : List va_W} : eJ Γ2 Δ.flatten = (Γ2 ++ Δ).flatten := by simp [eJ]
section ZC
variable {x : eCx} {E : eEn} {l : Launch} {Q : State → Prop} {P : Option Value → List va_W → Prop} {Γ Γ1 Δ : List va_W} {pc : Nat} {L : List (Option Value)} {rest st : List Value} {k n : Nat} {y y' : MethodName} {cc bytes : ByteArray} {nL maxL idx : Nat} {rt ret : Option FieldType} {rm rm' : Room} {As : List Value} {own : String} {b : Nat}
theorem eCallPre {H : Heap} {locs : List Loc} (C : eOk x E l y cc nL rt rm) (hP : eP E Γ.flatten H) (hD : va_D (eA E) Γ.flatten) (hS : va_S (eA E) (eSt x).heap H locs) {k1 k2 : List Nat} (hp : (k1 ++ k2).isPerm (List.range Γ.length) = true) (h1 : ePick Γ k1 = Γ1) (h2 : ePick Γ k2 = Δ) {vs : List Value} : ∀ U : State, U.heap = H → (eSt x).WarmedH U.vm → ePc E vs Γ1 Δ.flatten vs.toArray U := by
  intro U hU hW
  have hc := eJ_cut hp h1 h2
  refine ⟨rfl, eEnv.moved hW ?_ ?_ C.2.2.2.2.2.2.2.1, by rw [hU]; exact eP_perm hc hP, eD_perm hc hD⟩
  · rw [hU]; exact hS.1
  · intro a h3 h4
    rw [hU]
    exact hS.2.1 a h3 h4
/-- a call on an object of a known class -/
theorem z_callV {ci : Nat} {fs : List Value} {r : vw_C} (k1 k2 : List Nat) (nA : Nat) (hM : eMet l E y' (ws_ y' bytes maxL ret) rm' (.ref b :: As) Γ1 P) (C : eOk x E l y cc nL rt rm) (d : decode cc pc = .ok (.invokevirtual idx, 3)) (hL0 : L.length = nL) (hst : st = As.reverse ++ .ref b :: rest) (hb : (b, (.inr (ci, fs) : va_E)) ∈ Γ.flatten) (hc : eCl[ci]? = some r) (ho : y.cls = own) (q1 : Cond.methodLink own idx y' ∈ lw_all) (q2 : Cond.instanceMethod y' ∈ lw_all) (q3 : Cond.selects r.1 y' y' ∈ lw_all) (q4 : Cond.initialized r.1 ∈ lw_all) (q5 : Cond.code y' bytes maxL ret ∈ lw_all)
    (hd : y'.cls = r.1 ∧ y'.cls ≠ "java/lang/invoke/MethodHandle" ∧ y'.cls ≠ "java/lang/invoke/VarHandle" ∧ (parseMethodDescriptor y'.desc).map (fun d => d.parameters.length) = some nA) (hn : As.length = nA) (hp : (k1 ++ k2).isPerm (List.range Γ.length) = true) (h1 : ePick Γ k1 = Γ1) (h2 : ePick Γ k2 = Δ) (hf : rm'.frames + 1 ≤ rm.frames ∧ 8 + (maxL + 11) + rm'.locals ≤ rm.locals) (hr : (rest.map fun v => v.category).sum ≤ 8) (hk : k + rm'.cells ≤ rm.cells ∧ n + rm'.slots ≤ rm.slots)
    (kk : ∀ (v : Option Value) (Γ2 : List va_W), P v Γ2 → eZ x E Q (Γ2 ++ Δ) (pc + 3) L (v.toList ++ rest) (k + rm'.cells) (n + rm'.slots)) : eZ x E Q Γ pc L st k n := by
  intro H locs ls hP hD hS hl
  have hR := C.2.2.2.2.2.2.2.2.1
  have hll := C.2.2.2.2.2.2.2.2.2.1
  subst hst
  refine eRun (va_runV (As := As) (rest := rest) (cc := cc) (nL := nL) (Ts := lw_all) (own := own) ⟨C.1, C.2.1, C.2.2.1, ho ▸ C.2.2.2.1, C.2.2.2.2.1⟩ (hll ▸ hM Δ.flatten) (cwV (R := eRo x) nA C.2.2.2.2.1 (lw_V q1 q2 q3 q4 q5) rfl rfl rfl hd (by rw [hR]; exact hf)) ⟨ePc.blind, eRecv C hP hb hc, eCallPre C hP hD hS hp h1 h2⟩ rfl hn (by rw [hl.1.1, hL0]) rfl (lv_room hr) d (by show k + _ ≤ (eRo x).cells ∧ n + _ ≤ (eRo x).slots; rw [hR]; exact hk)) hS (fun v Γ2 H1 locs1 hp hP1 hD1 hS1 => ?_)
  rw [eJ_fl] at hP1 hD1
  exact kk v Γ2 hp H1 locs1 ls hP1 hD1 hS1 hl
/-- a static call -/
theorem z_callS (k1 k2 : List Nat) (nA : Nat) (hM : eMet l E y' (ws_ y' bytes maxL ret) rm' As Γ1 P) (C : eOk x E l y cc nL rt rm) (d : decode cc pc = .ok (.invokestatic idx, 3)) (hL0 : L.length = nL) (hst : st = As.reverse ++ rest) (ho : y.cls = own) (q1 : Cond.methodLink own idx y' ∈ lw_all) (q2 : Cond.static y' ∈ lw_all) (q4 : Cond.initialized y'.cls ∈ lw_all) (q5 : Cond.code y' bytes maxL ret ∈ lw_all)
    (hd : y'.cls ≠ "java/lang/invoke/MethodHandle" ∧ y'.cls ≠ "java/lang/invoke/VarHandle" ∧ (parseMethodDescriptor y'.desc).map (fun d => d.parameters.length) = some nA) (hn : As.length = nA) (hp : (k1 ++ k2).isPerm (List.range Γ.length) = true) (h1 : ePick Γ k1 = Γ1) (h2 : ePick Γ k2 = Δ) (hf : rm'.frames + 1 ≤ rm.frames ∧ 8 + (maxL + 11) + rm'.locals ≤ rm.locals) (hr : (rest.map fun v => v.category).sum ≤ 8) (hk : k + rm'.cells ≤ rm.cells ∧ n + rm'.slots ≤ rm.slots)
    (kk : ∀ (v : Option Value) (Γ2 : List va_W), P v Γ2 → eZ x E Q (Γ2 ++ Δ) (pc + 3) L (v.toList ++ rest) (k + rm'.cells) (n + rm'.slots)) : eZ x E Q Γ pc L st k n := by
  intro H locs ls hP hD hS hl
  have hR := C.2.2.2.2.2.2.2.2.1
  have hll := C.2.2.2.2.2.2.2.2.2.1
  subst hst
  refine eRun (va_runS (As := As) (rest := rest) (cc := cc) (nL := nL) (Ts := lw_all) (own := own) ⟨C.1, C.2.1, C.2.2.1, ho ▸ C.2.2.2.1, C.2.2.2.2.1⟩ (hll ▸ hM Δ.flatten) (va_cwS (R := eRo x) nA C.2.2.2.2.1 (lw_S q1 q2 q4 q5) rfl rfl rfl hd (by rw [hR]; exact hf)) ⟨ePc.blind, eCallPre C hP hD hS hp h1 h2⟩ rfl hn (by rw [hl.1.1, hL0]) rfl (lv_room hr) d (by show k + _ ≤ (eRo x).cells ∧ n + _ ≤ (eRo x).slots; rw [hR]; exact hk)) hS (fun v Γ2 H1 locs1 hp hP1 hD1 hS1 => ?_)
  rw [eJ_fl] at hP1 hD1
  exact kk v Γ2 hp H1 locs1 ls hP1 hD1 hS1 hl
/-- a constructor's call -/
theorem z_callI (k1 k2 : List Nat) (nA : Nat) (hM : eMet l E y' (ws_ y' bytes maxL none) rm' (.ref b :: As) Γ1 P) (C : eOk x E l y cc nL rt rm) (d : decode cc pc = .ok (.invokespecial idx, 3)) (hL0 : L.length = nL) (hst : st = As.reverse ++ .ref b :: rest) (ho : y.cls = own) (q1 : Cond.methodLink own idx y' ∈ lw_all) (q2 : Cond.instanceMethod y' ∈ lw_all) (q4 : Cond.initialized y'.cls ∈ lw_all) (q5 : Cond.code y' bytes maxL none ∈ lw_all) (hi : y'.name = "<init>")
    (hd : y'.cls ≠ "java/lang/invoke/MethodHandle" ∧ y'.cls ≠ "java/lang/invoke/VarHandle" ∧ (parseMethodDescriptor y'.desc).map (fun d => d.parameters.length) = some nA) (hn : As.length = nA) (hp : (k1 ++ k2).isPerm (List.range Γ.length) = true) (h1 : ePick Γ k1 = Γ1) (h2 : ePick Γ k2 = Δ) (hf : rm'.frames + 1 ≤ rm.frames ∧ 8 + (maxL + 11) + rm'.locals ≤ rm.locals) (hr : (rest.map fun v => v.category).sum ≤ 8) (hk : k + rm'.cells ≤ rm.cells ∧ n + rm'.slots ≤ rm.slots)
    (kk : ∀ (v : Option Value) (Γ2 : List va_W), P v Γ2 → eZ x E Q (Γ2 ++ Δ) (pc + 3) L (v.toList ++ rest) (k + rm'.cells) (n + rm'.slots)) : eZ x E Q Γ pc L st k n := by
  intro H locs ls hP hD hS hl
  have hR := C.2.2.2.2.2.2.2.2.1
  have hll := C.2.2.2.2.2.2.2.2.2.1
  subst hst
  refine eRun (va_runI (As := As) (rest := rest) (cc := cc) (nL := nL) (Ts := lw_all) (own := own) ⟨C.1, C.2.1, C.2.2.1, ho ▸ C.2.2.2.1, C.2.2.2.2.1⟩ (hll ▸ hM Δ.flatten) (cwI (R := eRo x) nA C.2.2.2.2.1 (lw_meth q5) rfl rfl rfl (C.2.2.2.2.1 _ q4) (C.2.2.2.2.1 _ q1) (C.2.2.2.2.1 _ q2) hi hd (by rw [hR]; exact hf)) ⟨ePc.blind, eCallPre C hP hD hS hp h1 h2⟩ rfl hn (by rw [hl.1.1, hL0]) rfl (lv_room hr) d (by show k + _ ≤ (eRo x).cells ∧ n + _ ≤ (eRo x).slots; rw [hR]; exact hk)) hS (fun v Γ2 H1 locs1 hp hP1 hD1 hS1 => ?_)
  rw [eJ_fl] at hP1 hD1
  exact kk v Γ2 hp H1 locs1 ls hP1 hD1 hS1 hl
/-- a call through a name y0 of a class that inherits y' of owner's (or overrides it) -/
theorem z_callU {ci : Nat} {fs : List Value} {r : vw_C} {owner : String} {y0 : MethodName} (k1 k2 : List Nat) (nA : Nat) (hM : eMet l E y' (ws_ y' bytes maxL ret) rm' (.ref b :: As) Γ1 P) (C : eOk x E l y cc nL rt rm) (d : decode cc pc = .ok (.invokevirtual idx, 3)) (hL0 : L.length = nL) (hst : st = As.reverse ++ .ref b :: rest) (hb : (b, (.inr (ci, fs) : va_E)) ∈ Γ.flatten) (hc : eCl[ci]? = some r) (ho : y.cls = own) (hcu : ∀ (R : Room) (mc ms : Nat) (s : State) (args : Array Value), (∀ w ∈ lw_all, w.before args s = true) → eEnv E s → rm'.frames + 1 ≤ R.frames ∧ 8 + (maxL + 11) + rm'.locals ≤ R.locals → va_CU R s args own r.1 owner idx y0 y' bytes maxL ret (ws_ y' bytes maxL ret) rm' rm'.cells rm'.slots nA)
    (hn : As.length = nA) (hp : (k1 ++ k2).isPerm (List.range Γ.length) = true) (h1 : ePick Γ k1 = Γ1) (h2 : ePick Γ k2 = Δ) (hf : rm'.frames + 1 ≤ rm.frames ∧ 8 + (maxL + 11) + rm'.locals ≤ rm.locals) (hr : (rest.map fun v => v.category).sum ≤ 8) (hk : k + rm'.cells ≤ rm.cells ∧ n + rm'.slots ≤ rm.slots)
    (kk : ∀ (v : Option Value) (Γ2 : List va_W), P v Γ2 → eZ x E Q (Γ2 ++ Δ) (pc + 3) L (v.toList ++ rest) (k + rm'.cells) (n + rm'.slots)) : eZ x E Q Γ pc L st k n := by
  intro H locs ls hP hD hS hl
  have hR := C.2.2.2.2.2.2.2.2.1
  have hll := C.2.2.2.2.2.2.2.2.2.1
  subst hst
  refine eRun (va_runU (As := As) (rest := rest) (cc := cc) (nL := nL) (Ts := lw_all) (own := own) ⟨C.1, C.2.1, C.2.2.1, ho ▸ C.2.2.2.1, C.2.2.2.2.1⟩ (hll ▸ hM Δ.flatten) (hcu (eRo x) 0 0 _ _ C.2.2.2.2.1 C.2.2.2.2.2.2.2.1 (by rw [hR]; exact hf)) ⟨ePc.blind, eRecv C hP hb hc, eCallPre C hP hD hS hp h1 h2⟩ rfl hn (by rw [hl.1.1, hL0]) rfl (lv_room hr) d (by show k + _ ≤ (eRo x).cells ∧ n + _ ≤ (eRo x).slots; rw [hR]; exact hk)) hS (fun v Γ2 H1 locs1 hp hP1 hD1 hS1 => ?_)
  rw [eJ_fl] at hP1 hD1
  exact kk v Γ2 hp H1 locs1 ls hP1 hD1 hS1 hl
/-- the words of such a call: y' stands in owner under y0's name and is not abstract -/
theorem eCU {r1 owner : String} {y0 : MethodName} {nA : Nat} (q1 : Cond.methodLink own idx y0 ∈ lw_all) (q2 : Cond.sameMethod y0.cls owner y0.name y0.desc ∈ lw_all) (q3 : Cond.selects r1 y0 y' ∈ lw_all) (q4 : Cond.instanceMethod y' ∈ lw_all) (q6 : Cond.initialized y'.cls ∈ lw_all) (q5 : Cond.code y' bytes maxL ret ∈ lw_all) (hyx : y' = ⟨owner, y0.name, y0.desc⟩) (hd : owner ≠ "java/lang/invoke/MethodHandle" ∧ owner ≠ "java/lang/invoke/VarHandle" ∧ (parseMethodDescriptor y0.desc).map (fun d => d.parameters.length) = some nA) :
    ∀ (R : Room) (mc ms : Nat) (s : State) (args : Array Value), (∀ w ∈ lw_all, w.before args s = true) → eEnv E s → rm'.frames + 1 ≤ R.frames ∧ 8 + (maxL + 11) + rm'.locals ≤ R.locals → va_CU R s args own r1 owner idx y0 y' bytes maxL ret (ws_ y' bytes maxL ret) rm' rm'.cells rm'.slots nA := by
  intro R mc ms s args hts hE hf
  refine va_cwU nA hts (lw_app ?_ (lw_meth q5)) rfl rfl rfl hyx hd hf
  intro w hw
  simp only [List.mem_cons, List.not_mem_nil, or_false] at hw
  rcases hw with e | e | e | e | e
  · rw [e]; exact q1
  · rw [e]; exact q2
  · rw [e]; exact q3
  · rw [e]; exact q4
  · rw [e]; exact q6
/-- the same, y' overrides owner's code -/
theorem eCO {r1 owner : String} {y0 : MethodName} {nA m0 : Nat} {b0 : ByteArray} {r0 : Option FieldType} (q1 : Cond.methodLink own idx y0 ∈ lw_all) (q2 : Cond.sameMethod y0.cls owner y0.name y0.desc ∈ lw_all) (q7 : Cond.instanceMethod ⟨owner, y0.name, y0.desc⟩ ∈ lw_all) (q3 : Cond.selects r1 y0 y' ∈ lw_all) (q4 : Cond.instanceMethod y' ∈ lw_all) (q6 : Cond.initialized y'.cls ∈ lw_all) (q5 : Cond.code y' bytes maxL ret ∈ lw_all) (q0 : Cond.code ⟨owner, y0.name, y0.desc⟩ b0 m0 r0 ∈ lw_all) (hd : owner ≠ "java/lang/invoke/MethodHandle" ∧ owner ≠ "java/lang/invoke/VarHandle" ∧ (parseMethodDescriptor y0.desc).map (fun d => d.parameters.length) = some nA) :
    ∀ (R : Room) (mc ms : Nat) (s : State) (args : Array Value), (∀ w ∈ lw_all, w.before args s = true) → eEnv E s → rm'.frames + 1 ≤ R.frames ∧ 8 + (maxL + 11) + rm'.locals ≤ R.locals → va_CU R s args own r1 owner idx y0 y' bytes maxL ret (ws_ y' bytes maxL ret) rm' rm'.cells rm'.slots nA := by
  intro R mc ms s args hts hE hf
  refine va_cwO nA hts (lw_app ?_ (lw_meth q5)) rfl rfl rfl q0 hd hf
  intro w hw
  simp only [List.mem_cons, List.not_mem_nil, or_false] at hw
  rcases hw with e | e | e | e | e | e
  · rw [e]; exact q1
  · rw [e]; exact q2
  · rw [e]; exact q7
  · rw [e]; exact q3
  · rw [e]; exact q4
  · rw [e]; exact q6
/-- the same, owner's is abstract -/
theorem eCA {r1 owner : String} {y0 : MethodName} {nA : Nat} (q1 : Cond.methodLink own idx y0 ∈ lw_all) (q2 : Cond.sameMethod y0.cls owner y0.name y0.desc ∈ lw_all) (q3 : Cond.selects r1 y0 y' ∈ lw_all) (q4 : Cond.instanceMethod y' ∈ lw_all) (q6 : Cond.initialized y'.cls ∈ lw_all) (q5 : Cond.code y' bytes maxL ret ∈ lw_all) (qd : Cond.declares ⟨owner, y0.name, y0.desc⟩ ∈ lw_tbl) (hd : owner ≠ "java/lang/invoke/MethodHandle" ∧ owner ≠ "java/lang/invoke/VarHandle" ∧ (parseMethodDescriptor y0.desc).map (fun d => d.parameters.length) = some nA) :
    ∀ (R : Room) (mc ms : Nat) (s : State) (args : Array Value), (∀ w ∈ lw_all, w.before args s = true) → eEnv E s → rm'.frames + 1 ≤ R.frames ∧ 8 + (maxL + 11) + rm'.locals ≤ R.locals → va_CU R s args own r1 owner idx y0 y' bytes maxL ret (ws_ y' bytes maxL ret) rm' rm'.cells rm'.slots nA := by
  intro R mc ms s args hts hE hf
  refine va_cwA nA hts (lw_app ?_ (lw_meth q5)) rfl rfl rfl (hE.2.2.1 _ (eNw_in qd rfl)) hd hf
  intro w hw
  simp only [List.mem_cons, List.not_mem_nil, or_false] at hw
  rcases hw with e | e | e | e | e
  · rw [e]; exact q1
  · rw [e]; exact q2
  · rw [e]; exact q3
  · rw [e]; exact q4
  · rw [e]; exact q6
/-- a call through an interface -/
theorem z_callF {ci cnt : Nat} {fs : List Value} {r : vw_C} {y0 : MethodName} (k1 k2 : List Nat) (nA : Nat) (hM : eMet l E y' (ws_ y' bytes maxL ret) rm' (.ref b :: As) Γ1 P) (C : eOk x E l y cc nL rt rm) (d : decode cc pc = .ok (.invokeinterface idx cnt, 5)) (hL0 : L.length = nL) (hst : st = As.reverse ++ .ref b :: rest) (hb : (b, (.inr (ci, fs) : va_E)) ∈ Γ.flatten) (hc : eCl[ci]? = some r) (ho : y.cls = own) (hF : va_Fw r.1 y0 y' (eSt x)) (q1 : Cond.methodLink own idx y0 ∈ lw_all) (q2 : Cond.instanceMethod y' ∈ lw_all) (q3 : Cond.selects r.1 y0 y' ∈ lw_all) (q4 : Cond.initialized y'.cls ∈ lw_all) (q5 : Cond.code y' bytes maxL ret ∈ lw_all)
    (hd : y0.cls ≠ "java/lang/invoke/MethodHandle" ∧ y0.cls ≠ "java/lang/invoke/VarHandle" ∧ (parseMethodDescriptor y0.desc).map (fun d => d.parameters.length) = some nA) (hn : As.length = nA) (hp : (k1 ++ k2).isPerm (List.range Γ.length) = true) (h1 : ePick Γ k1 = Γ1) (h2 : ePick Γ k2 = Δ) (hf : rm'.frames + 1 ≤ rm.frames ∧ 8 + (maxL + 11) + rm'.locals ≤ rm.locals) (hr : (rest.map fun v => v.category).sum ≤ 8) (hk : k + rm'.cells ≤ rm.cells ∧ n + rm'.slots ≤ rm.slots)
    (kk : ∀ (v : Option Value) (Γ2 : List va_W), P v Γ2 → eZ x E Q (Γ2 ++ Δ) (pc + 5) L (v.toList ++ rest) (k + rm'.cells) (n + rm'.slots)) : eZ x E Q Γ pc L st k n := by
  intro H locs ls hP hD hS hl
  have hR := C.2.2.2.2.2.2.2.2.1
  have hll := C.2.2.2.2.2.2.2.2.2.1
  subst hst
  refine eRun5 (va_runF (As := As) (rest := rest) (cc := cc) (nL := nL) (Ts := lw_all) (own := own) (C.2.2.2.2.2.2.2.1.1.1 ci r hc).2 ⟨C.1, C.2.1, C.2.2.1, ho ▸ C.2.2.2.1, C.2.2.2.2.1⟩ (hll ▸ hM Δ.flatten) (va_cwF (R := eRo x) nA C.2.2.2.2.1 (lw_app ?_ (lw_meth q5)) rfl rfl rfl hF hd (by rw [hR]; exact hf)) ⟨ePc.blind, eRecv C hP hb hc, eCallPre C hP hD hS hp h1 h2⟩ rfl hn (by rw [hl.1.1, hL0]) rfl (lv_room hr) d (by show k + _ ≤ (eRo x).cells ∧ n + _ ≤ (eRo x).slots; rw [hR]; exact hk)) hS (fun v Γ2 H1 locs1 hp hP1 hD1 hS1 => ?_)
  · intro w hw
    simp only [List.mem_cons, List.not_mem_nil, or_false] at hw
    rcases hw with e | e | e | e
    · rw [e]; exact q1
    · rw [e]; exact q3
    · rw [e]; exact q2
    · rw [e]; exact q4
  · rw [eJ_fl] at hP1 hD1
    exact kk v Γ2 hp H1 locs1 ls hP1 hD1 hS1 hl
/-- a private static of a nest mate -/
theorem z_callSN {host : String} (k1 k2 : List Nat) (nA : Nat) (hM : eMet l E y' (ws_ y' bytes maxL ret) rm' As Γ1 P) (C : eOk x E l y cc nL rt rm) (d : decode cc pc = .ok (.invokestatic idx, 3)) (hL0 : L.length = nL) (hst : st = As.reverse ++ rest) (ho : y.cls = own) (q1 : Cond.methodLinkNest own idx y' host ∈ lw_tbl) (q2 : Cond.static y' ∈ lw_all) (q4 : Cond.initialized y'.cls ∈ lw_all) (q5 : Cond.code y' bytes maxL ret ∈ lw_all)
    (hd : y'.cls ≠ "java/lang/invoke/MethodHandle" ∧ y'.cls ≠ "java/lang/invoke/VarHandle" ∧ (parseMethodDescriptor y'.desc).map (fun d => d.parameters.length) = some nA) (hn : As.length = nA) (hp : (k1 ++ k2).isPerm (List.range Γ.length) = true) (h1 : ePick Γ k1 = Γ1) (h2 : ePick Γ k2 = Δ) (hf : rm'.frames + 1 ≤ rm.frames ∧ 8 + (maxL + 11) + rm'.locals ≤ rm.locals) (hr : (rest.map fun v => v.category).sum ≤ 8) (hk : k + rm'.cells ≤ rm.cells ∧ n + rm'.slots ≤ rm.slots)
    (kk : ∀ (v : Option Value) (Γ2 : List va_W), P v Γ2 → eZ x E Q (Γ2 ++ Δ) (pc + 3) L (v.toList ++ rest) (k + rm'.cells) (n + rm'.slots)) : eZ x E Q Γ pc L st k n := by
  intro H locs ls hP hD hS hl
  have hR := C.2.2.2.2.2.2.2.2.1
  have hll := C.2.2.2.2.2.2.2.2.2.1
  subst hst
  refine eRun (va_runSN (As := As) (rest := rest) (cc := cc) (nL := nL) (Ts := lw_all) (own := own) ⟨C.1, C.2.1, C.2.2.1, ho ▸ C.2.2.2.1, C.2.2.2.2.1⟩ (hll ▸ hM Δ.flatten) ⟨va_cnB (R := eRo x) nA C.2.2.2.2.1 (lw_meth q5) rfl rfl rfl (C.2.2.2.2.2.2.2.1.2.2.1 _ (eNw_in q1 rfl)) (C.2.2.2.2.1 _ q4) hd (by rw [hR]; exact hf), C.2.2.2.2.1 _ q2, trivial⟩ ⟨ePc.blind, eCallPre C hP hD hS hp h1 h2⟩ rfl hn (by rw [hl.1.1, hL0]) rfl (lv_room hr) d (by show k + _ ≤ (eRo x).cells ∧ n + _ ≤ (eRo x).slots; rw [hR]; exact hk)) hS (fun v Γ2 H1 locs1 hp hP1 hD1 hS1 => ?_)
  rw [eJ_fl] at hP1 hD1
  exact kk v Γ2 hp H1 locs1 ls hP1 hD1 hS1 hl
/-- a private constructor of a nest mate -/
theorem z_callIN {host : String} (k1 k2 : List Nat) (nA : Nat) (hM : eMet l E y' (ws_ y' bytes maxL none) rm' (.ref b :: As) Γ1 P) (C : eOk x E l y cc nL rt rm) (d : decode cc pc = .ok (.invokespecial idx, 3)) (hL0 : L.length = nL) (hst : st = As.reverse ++ .ref b :: rest) (ho : y.cls = own) (q1 : Cond.methodLinkNest own idx y' host ∈ lw_tbl) (q2 : Cond.instanceMethod y' ∈ lw_all) (q4 : Cond.initialized y'.cls ∈ lw_all) (q5 : Cond.code y' bytes maxL none ∈ lw_all) (hi : y'.name = "<init>")
    (hd : y'.cls ≠ "java/lang/invoke/MethodHandle" ∧ y'.cls ≠ "java/lang/invoke/VarHandle" ∧ (parseMethodDescriptor y'.desc).map (fun d => d.parameters.length) = some nA) (hn : As.length = nA) (hp : (k1 ++ k2).isPerm (List.range Γ.length) = true) (h1 : ePick Γ k1 = Γ1) (h2 : ePick Γ k2 = Δ) (hf : rm'.frames + 1 ≤ rm.frames ∧ 8 + (maxL + 11) + rm'.locals ≤ rm.locals) (hr : (rest.map fun v => v.category).sum ≤ 8) (hk : k + rm'.cells ≤ rm.cells ∧ n + rm'.slots ≤ rm.slots)
    (kk : ∀ (v : Option Value) (Γ2 : List va_W), P v Γ2 → eZ x E Q (Γ2 ++ Δ) (pc + 3) L (v.toList ++ rest) (k + rm'.cells) (n + rm'.slots)) : eZ x E Q Γ pc L st k n := by
  intro H locs ls hP hD hS hl
  have hR := C.2.2.2.2.2.2.2.2.1
  have hll := C.2.2.2.2.2.2.2.2.2.1
  subst hst
  refine eRun (va_runIN (As := As) (rest := rest) (cc := cc) (nL := nL) (Ts := lw_all) (own := own) ⟨C.1, C.2.1, C.2.2.1, ho ▸ C.2.2.2.1, C.2.2.2.2.1⟩ (hll ▸ hM Δ.flatten) ⟨va_cnB (R := eRo x) nA C.2.2.2.2.1 (lw_meth q5) rfl rfl rfl (C.2.2.2.2.2.2.2.1.2.2.1 _ (eNw_in q1 rfl)) (C.2.2.2.2.1 _ q4) hd (by rw [hR]; exact hf), hi, C.2.2.2.2.1 _ q2⟩ ⟨ePc.blind, eCallPre C hP hD hS hp h1 h2⟩ rfl hn (by rw [hl.1.1, hL0]) rfl (lv_room hr) d (by show k + _ ≤ (eRo x).cells ∧ n + _ ≤ (eRo x).slots; rw [hR]; exact hk)) hS (fun v Γ2 H1 locs1 hp hP1 hD1 hS1 => ?_)
  rw [eJ_fl] at hP1 hD1
  exact kk v Γ2 hp H1 locs1 ls hP1 hD1 hS1 hl
end ZC
