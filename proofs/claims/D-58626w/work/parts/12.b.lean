/-! ===== truth values, sums of sizes, cells that are dropped, blocks cut ===== -/
set_option maxRecDepth 100000
def eB (b : Bool) : Int32 := if b then 1 else 0
theorem eB_t : eB true = 1 := rfl
theorem eB_f : eB false = 0 := rfl
theorem eB_nar (b : Bool) : narrow .boolean (.int (eB b)) = .int (eB b) := by cases b <;> rfl
theorem eB_fit (b : Bool) : fits .boolean (.int (eB b)) = true := by cases b <;> rfl
theorem eB_0 (b : Bool) : eB b = 0 ↔ b = false := by cases b <;> decide
theorem eB_1 (b : Bool) : eB b = 1 ↔ b = true := by cases b <;> decide
theorem eS0 : (([] : List Value).map fun v => v.category).sum ≤ 0 := Nat.le_refl _
theorem eSm {v : Value} {vs : List Value} {m : Nat} (h : v.category = 1) (h2 : (vs.map fun v => v.category).sum ≤ m) : ((v :: vs).map fun v => v.category).sum ≤ m + 1 := by
  simp only [List.map_cons, List.sum_cons, h]
  omega
theorem eSl2 {v : Value} {vs : List Value} {m : Nat} (h : v.category = 2) (h2 : (vs.map fun v => v.category).sum ≤ m) : ((v :: vs).map fun v => v.category).sum ≤ m + 2 := by
  simp only [List.map_cons, List.sum_cons, h]
  omega
section ZD
variable {x : eCx} {E : eEn} {l : Launch} {Q : State → Prop} {Γ Γ' : List va_W} {pc : Nat} {L : List (Option Value)} {st rest : List Value} {k n : Nat} {y : MethodName} {cc : ByteArray} {nL : Nat} {rt : Option FieldType} {rm : Room}
/-- cells that nobody asks for any more -/
theorem z_drop {b : va_W} (kk : eZ x E Q Γ pc L st k n) : eZ x E Q (b :: Γ) pc L st k n := by
  intro H locs ls hP hD hS hl
  rw [List.flatten_cons] at hP hD
  have h1 := eD_iff.mp hD
  rw [List.map_append, List.nodup_append] at h1
  exact kk H locs ls ⟨eP_iff.mpr fun q hq => eP_iff.mp hP.1 q (List.mem_append_right _ hq), fun q hq => hP.2 q (List.mem_append_right _ hq)⟩ (eD_iff.mpr ⟨h1.1.2.1, fun q hq => h1.2 q (List.mem_append_right _ hq)⟩) hS hl
/-- a block cut into blocks, blocks joined to one -/
theorem z_cut (i : Nat) {b : va_W} {bs : List va_W} (hb : Γ[i]? = some b) (e : b = bs.flatten) (hG : Γ.take i ++ bs ++ Γ.drop (i + 1) = Γ') (kk : eZ x E Q Γ' pc L st k n) : eZ x E Q Γ pc L st k n := by
  refine z_eq ?_ kk
  subst hG
  have hi : i < Γ.length := (List.getElem?_eq_some_iff.mp hb).1
  have h1 : Γ = Γ.take i ++ b :: Γ.drop (i + 1) := by
    have h2 : Γ.drop i = b :: Γ.drop (i + 1) := by
      rw [List.drop_eq_getElem_cons hi]
      congr 1
      exact (List.getElem?_eq_some_iff.mp hb).2
    rw [← h2, List.take_append_drop]
  conv => lhs; rw [h1]
  simp [e]
/-- the first blocks joined to one, the others as they are -/
theorem z_join (m : Nat) {b : va_W} (e : (Γ.take m).flatten = b) (hG : b :: Γ.drop m = Γ') (kk : eZ x E Q Γ' pc L st k n) : eZ x E Q Γ pc L st k n := by
  refine z_eq ?_ kk
  subst hG e
  rw [List.flatten_cons, ← List.flatten_append, List.take_append_drop]
theorem z_if_eq_B {b : Bool} {off : Int} (tgt : Nat) (C : eOk x E l y cc nL rt rm) (d : decode cc pc = .ok (.ifCond .eq off, 3)) (ht : (pc : Int) + off = (tgt : Int)) (kt : b = false → eZ x E Q Γ tgt L rest k n) (kf : b = true → eZ x E Q Γ (pc + 3) L rest k n) : eZ x E Q Γ pc L (.int (eB b) :: rest) k n :=
  z_if_eq tgt C d ht (fun h => kt ((eB_0 b).mp h)) (fun h => kf (by cases b; exact absurd rfl h; rfl))
theorem z_if_ne_B {b : Bool} {off : Int} (tgt : Nat) (C : eOk x E l y cc nL rt rm) (d : decode cc pc = .ok (.ifCond .ne off, 3)) (ht : (pc : Int) + off = (tgt : Int)) (kt : b = true → eZ x E Q Γ tgt L rest k n) (kf : b = false → eZ x E Q Γ (pc + 3) L rest k n) : eZ x E Q Γ pc L (.int (eB b) :: rest) k n :=
  z_if_ne tgt C d ht (fun h => kt (by cases b; exact absurd rfl h; rfl)) (fun h => kf ((eB_0 b).mp h))
end ZD
set_option maxHeartbeats 1000000 in
theorem eStartF {l : Launch} {E : eEn} {y : MethodName} {cc : ByteArray} {nL : Nat} {rt : Option FieldType} {rm : Room} {args : List Value} {Γ : List va_W} {P : Option Value → List va_W → Prop} (hl : l.stackTraces = false) (hy : plainFor y = true) {L : List (Option Value)} (hL : args.map some ++ List.replicate (nL - args.length) none = L) (hc : ∀ v ∈ args, v.category = 1) (hn : args.length ≤ nL)
    (body : ∀ (x : eCx) (rs : va_W), eOk x E l y cc nL rt rm → eZ x E (eQ x E P rs) (Γ ++ [rs]) 0 L [] 0 0) : eMet l E y (ws_ y cc nL rt) rm args Γ P := by
  intro rs
  refine va_MetF (cc := cc) (maxL := nL) (ret := rt) hy rfl ?_
  intro p e s m args' below meth c s₁ B hml hv
  obtain ⟨rfl, hE, hP, hD⟩ := hv
  have hts := atoms_spec (ws := ws_ y cc nL rt) B.pre
  have hts : ∀ w ∈ lw_all, w.before args.toArray s = true := fun w h => hts w (List.mem_cons_of_mem _ h)
  have h := body (p, l, e, (headSpec (ws_ y cc nL rt) rm).room, s, m, args.toArray, below, meth, c) rs ⟨B.exec, B.bytes, hml, findClass_of_methodNamed B.named, hts, B.returns, B.notSynchronized, hE, rfl, rfl, hl, (name_of_methodNamed B.named B.method).1⟩
  have h2 := h s.heap [] _ hP hD va_S.rf (by rw [← hL]; exact eL.start hc hn)
  rw [lg_entry_eq]
  exact h2
