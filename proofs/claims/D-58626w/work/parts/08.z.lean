/-! ===== Z: the judgement, contracts, rows ===== -/
set_option maxRecDepth 100000
abbrev eW (x : eCx) (H : Heap) (locs : List Loc) (k n : Nat) (Q : State → Prop) (g : JFrame) : Prop :=
  W x.1 x.2.1 x.2.2.1 x.2.2.2.1 x.2.2.2.2.1 x.2.2.2.2.2.1 x.2.2.2.2.2.2.1 x.2.2.2.2.2.2.2.1 x.2.2.2.2.2.2.2.2.1 x.2.2.2.2.2.2.2.2.2 H locs k n Q g
/-- a place in a method: the world Γ, the pc, the locals, the stack, cells and slots made -/
def eZ (x : eCx) (E : eEn) (Q : State → Prop) (Γ : List va_W) (pc : Nat) (L : List (Option Value)) (st : List Value) (k n : Nat) : Prop :=
  ∀ (H : Heap) (locs : List Loc) (ls : Array Slot), eP E Γ.flatten H → va_D (eA E) Γ.flatten → va_S (eA E) (eSt x).heap H locs → eL ls L → eW x H locs k n Q (F0 (eMi x) pc ls st)
/-- what stays the same in a method: y with the code cc, nL locals, the answer's type rt, the room rm -/
def eOk (x : eCx) (E : eEn) (l : Launch) (y : MethodName) (cc : ByteArray) (nL : Nat) (rt : Option FieldType) (rm : Room) : Prop :=
  x.1.tables.exec = Jvm.exec ∧ (eCo x).code = cc ∧ (eCo x).maxLocals = nL ∧ (eSt x).vm.findClass y.cls = some (eMi x).cls ∧ (∀ w ∈ lw_all, w.before (eAr x) (eSt x) = true) ∧ (eMe x).sig.returnType = rt ∧ (eMe x).locks = false ∧ eEnv E (eSt x) ∧ eRo x = rm ∧ x.2.1 = l ∧ l.stackTraces = false ∧ (eMe x).name = y.name
abbrev eJ (Γ : List va_W) (rs : va_W) : va_W := (Γ ++ [rs]).flatten
def ePc (E : eEn) (args : List Value) (Γ : List va_W) (rs : va_W) : Array Value → State → Prop := va_Pc args (fun U => eEnv E U ∧ eP E (eJ Γ rs) U.heap ∧ va_D (eA E) (eJ Γ rs))
def eQc (E : eEn) (P : Option Value → List va_W → Prop) (rs : va_W) : Array Value → State → Outcome → State → Prop := fun _ st o t =>
  (∃ (v : Option Value) (Γ : List va_W), o = .returned v ∧ P v Γ ∧ eP E (eJ Γ rs) t.heap ∧ va_D (eA E) (eJ Γ rs)) ∧ va_F (eA E) st t
/-- a contract: from the blocks Γ (and any others) the method returns v and blocks Γ', with P v Γ' -/
def eMet (l : Launch) (E : eEn) (y : MethodName) (ws : List Cond) (rm : Room) (args : List Value) (Γ : List va_W) (P : Option Value → List va_W → Prop) : Prop :=
  ∀ rs : va_W, Met l y ws rm (ePc E args Γ rs) (eQc E P rs) rm.cells rm.slots (eA E)
def eQ (x : eCx) (E : eEn) (P : Option Value → List va_W → Prop) (rs : va_W) : State → Prop := MQ (eBe x) (eQc E P rs) (eAr x) (eSt x) (eRo x).cells (eRo x).slots (eA E)
theorem eEnv.calling {E : eEn} {U : State} {g : JFrame} {mk : MethodId} {a : Array Value} (h : eEnv E U) : eEnv E (U.calling g mk a) :=
  eEnv.moved (s := U) (U := U.calling g mk a) (State.WarmedH.refl U) (Nat.le_refl _) (fun _ _ _ => rfl) h
theorem ePc.blind {E : eEn} {args : List Value} {Γ : List va_W} {rs : va_W} : FrameBlind (ePc E args Γ rs) :=
  fun _ _ _ _ h => ⟨h.1, eEnv.calling h.2.1, h.2.2.1, h.2.2.2⟩
set_option maxHeartbeats 1000000 in
theorem eStart {l : Launch} {E : eEn} {y : MethodName} {cc : ByteArray} {nL : Nat} {rt : Option FieldType} {rm : Room} {args : List Value} {Γ : List va_W} {P : Option Value → List va_W → Prop} (hl : l.stackTraces = false) (hy : plainName y.cls = true) {L : List (Option Value)} (hL : args.map some ++ List.replicate (nL - args.length) none = L) (hc : ∀ v ∈ args, v.category = 1) (hn : args.length ≤ nL)
    (body : ∀ (x : eCx) (rs : va_W), eOk x E l y cc nL rt rm → eZ x E (eQ x E P rs) (Γ ++ [rs]) 0 L [] 0 0) : eMet l E y (ws_ y cc nL rt) rm args Γ P := by
  intro rs
  refine Met.ofW (cc := cc) (maxL := nL) (ret := rt) hy rfl ?_
  intro p e s m args' below meth c s₁ B hml hv
  obtain ⟨rfl, hE, hP, hD⟩ := hv
  have hts := atoms_spec (ws := ws_ y cc nL rt) B.pre
  have hts : ∀ w ∈ lw_all, w.before args.toArray s = true := fun w h => hts w (List.mem_cons_of_mem _ h)
  have h := body (p, l, e, (headSpec (ws_ y cc nL rt) rm).room, s, m, args.toArray, below, meth, c) rs ⟨B.exec, B.bytes, hml, findClass_of_methodNamed B.named, hts, B.returns, B.notSynchronized, hE, rfl, rfl, hl, (name_of_methodNamed B.named B.method).1⟩
  have h2 := h s.heap [] _ hP hD va_S.rf (by rw [← hL]; exact eL.start hc hn)
  rw [lg_entry_eq]
  exact h2
section ZR
variable {x : eCx} {E : eEn} {l : Launch} {Q : State → Prop} {Γ Γ' : List va_W} {pc : Nat} {L L' : List (Option Value)} {st rest : List Value} {k n k' n' : Nat} {y : MethodName} {cc : ByteArray} {nL : Nat} {rt : Option FieldType} {rm : Room}
/-- the world in another order -/
theorem z_perm (h : Γ.flatten.Perm Γ'.flatten) (kk : eZ x E Q Γ' pc L st k n) : eZ x E Q Γ pc L st k n :=
  fun H locs ls hP hD hS hl => kk H locs ls (eP_perm h hP) (eD_perm h hD) hS hl
theorem z_pick (ks : List Nat) (h : ks.isPerm (List.range Γ.length) = true) (hΓ : ePick Γ ks = Γ') (kk : eZ x E Q Γ' pc L st k n) : eZ x E Q Γ pc L st k n :=
  z_perm (by rw [← hΓ]; exact ePick_perm h) kk
/-- blocks cut or joined otherwise -/
theorem z_eq (h : Γ.flatten = Γ'.flatten) (kk : eZ x E Q Γ' pc L st k n) : eZ x E Q Γ pc L st k n := z_perm (by rw [h]) kk
theorem z_go (e : Γ = Γ') (kk : eZ x E Q Γ' pc L st k n) : eZ x E Q Γ pc L st k n := e ▸ kk
theorem z_lo (e : L = L') (kk : eZ x E Q Γ pc L' st k n) : eZ x E Q Γ pc L st k n := e ▸ kk
theorem z_wide (h1 : k ≤ k') (h2 : n ≤ n') (kk : eZ x E Q Γ pc L st k' n') : eZ x E Q Γ pc L st k n :=
  fun H locs ls hP hD hS hl => W.widen h1 h2 (kk H locs ls hP hD hS hl)
/-- the addresses of the world's cells are apart -/
theorem z_apart (kk : ((Γ.flatten).map Prod.fst).Nodup → eZ x E Q Γ pc L st k n) : eZ x E Q Γ pc L st k n :=
  fun H locs ls hP hD hS hl => kk (eD_iff.mp hD).1 H locs ls hP hD hS hl
/-- a name for a number on the stack -/
theorem z_top {v : Int32} (kk : ∀ w : Int32, w = v → eZ x E Q Γ pc L (.int w :: rest) k n) : eZ x E Q Γ pc L (.int v :: rest) k n := kk v rfl
theorem z_topL {v : Int64} (kk : ∀ w : Int64, w = v → eZ x E Q Γ pc L (.long w :: rest) k n) : eZ x E Q Γ pc L (.long v :: rest) k n := kk v rfl
theorem z_is {v w : Int32} (e : v = w) (kk : eZ x E Q Γ pc L (.int w :: rest) k n) : eZ x E Q Γ pc L (.int v :: rest) k n := e ▸ kk
theorem z_isv {v w : Value} (e : v = w) (kk : eZ x E Q Γ pc L (w :: rest) k n) : eZ x E Q Γ pc L (v :: rest) k n := e ▸ kk

end ZR
