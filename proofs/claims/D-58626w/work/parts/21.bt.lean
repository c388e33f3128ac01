/-! ===== long comparison: isBetween ===== -/
set_option maxRecDepth 100000
section LC
variable {p : Program} {l : Launch} {e : Env} {R : Room} {s : State} {m : MethodId} {args : Array Value} {below : List Frame} {meth : Method} {c : Code} {H : Heap} {locs : List Loc} {cells slots : Nat} {Q : State → Prop} {cc : ByteArray} {pc : Nat} {ls : Array Slot} {rest : List Value}
def eCmp (x y : Int64) : Int32 := if x > y then 1 else if x = y then 0 else -1
theorem lv_lcmp (hexec : p.tables.exec = Jvm.exec) (hb : c.code = cc) {x y : Int64} (hdg : decode cc pc = .ok (.lcmp, 1))
    (k : W p l e R s m args below meth c H locs cells slots Q (F0 m (pc + 1) ls (.int (eCmp x y) :: rest))) : W p l e R s m args below meth c H locs cells slots Q (F0 m pc ls (.long y :: .long x :: rest)) := by
  intro T hT X
  obtain ⟨t, a, b⟩ := k T hT X
  refine ⟨t, ?_, b⟩
  unfold eCmp at a
  by_cases h1 : x > y
  · rw [if_pos h1] at a
    jvm_step X.here [X.here.top, hexec, hb, hdg, lcmp.wp_sem, h1]
    exact a
  · rw [if_neg h1] at a
    by_cases h2 : x = y
    · rw [if_pos h2] at a
      jvm_step X.here [X.here.top, hexec, hb, hdg, lcmp.wp_sem, h1, h2]
      exact a
    · rw [if_neg h2] at a
      jvm_step X.here [X.here.top, hexec, hb, hdg, lcmp.wp_sem, h1, h2]
      exact a
end LC
theorem eCmp_lt {x y : Int64} : eCmp x y < 0 ↔ x < y := by
  unfold eCmp
  split
  · rename_i h
    constructor
    · intro h2; exact absurd h2 (by decide)
    · intro h2; rw [Int64.lt_iff_toInt_lt] at *; have h := Int64.lt_iff_toInt_lt.mp h; omega
  · split
    · rename_i h
      constructor
      · intro h2; exact absurd h2 (by decide)
      · intro h2; subst h; exact absurd h2 (fun h => Int64.lt_irrefl h)
    · rename_i h1 h2
      constructor
      · intro _
        rw [Int64.lt_iff_toInt_lt]
        have h3 : ¬ y.toInt < x.toInt := fun h => h1 (Int64.lt_iff_toInt_lt.mpr h)
        have h4 : x.toInt ≠ y.toInt := fun h => h2 (Int64.toInt_inj.mp h)
        omega
      · intro _; decide
theorem eCmp_gt {x y : Int64} : eCmp x y > 0 ↔ y < x := by
  unfold eCmp
  split
  · rename_i h
    exact ⟨fun _ => h, fun _ => by decide⟩
  · split
    · rename_i h
      constructor
      · intro h2; exact absurd h2 (by decide)
      · intro h2; subst h; exact absurd h2 (fun h => Int64.lt_irrefl h)
    · rename_i h1 h2
      exact ⟨fun h => absurd h (by decide), fun h => absurd h h1⟩
theorem eL.nil {ls : Array Slot} {n : Nat} {lv : List (Nat × Value)} (h : lv_has ls n lv) : eL ls (List.replicate n none) := by
  refine ⟨⟨by rw [List.length_replicate]; exact h.1, h.2.1, fun q hq => ?_⟩, fun v h1 => ?_⟩
  · obtain ⟨j, w⟩ := q
    have h1 := eLl_mem.mp hq
    rw [List.getElem?_replicate] at h1
    split at h1 <;> cases h1
  · exact absurd (List.eq_of_mem_replicate h1) (by simp)
set_option maxHeartbeats 1000000 in
theorem m_isBetween {l : Launch} (hl : l.stackTraces = false) (E : eEn) (v lo hi : Int64) : eMet l E yX0_isBetween (ws_ yX0_isBetween cX0_isBetween 6 (some .boolean)) ({ frames := 0, cells := 0, slots := 0, locals := 0 }) [.long v, .long lo, .long hi] [] (fun w Γ => w = some (.int (eB (decide (lo ≤ v ∧ v ≤ hi)))) ∧ Γ = []) := by
  intro rs
  refine Met.ofW (cc := cX0_isBetween) (maxL := 6) (ret := some .boolean) (by decide) rfl ?_
  intro p e s m args' below meth c s₁ B hml hv
  obtain ⟨rfl, hE, hP, hD⟩ := hv
  have hts := atoms_spec (ws := ws_ yX0_isBetween cX0_isBetween 6 (some .boolean)) B.pre
  have hts : ∀ w ∈ lw_all, w.before [Value.long v, .long lo, .long hi].toArray s = true := fun w h => hts w (List.mem_cons_of_mem _ h)
  let x : eCx := (p, l, e, (headSpec (ws_ yX0_isBetween cX0_isBetween 6 (some .boolean)) { frames := 0, cells := 0, slots := 0, locals := 0 }).room, s, m, [Value.long v, .long lo, .long hi].toArray, below, meth, c)
  have C : eOk x E l yX0_isBetween cX0_isBetween 6 (some .boolean) { frames := 0, cells := 0, slots := 0, locals := 0 } := ⟨B.exec, B.bytes, hml, findClass_of_methodNamed B.named, hts, B.returns, B.notSynchronized, hE, rfl, rfl, hl, (name_of_methodNamed B.named B.method).1⟩
  rw [lg_entry_eq]
  have hen := lv_entry [Value.long v, .long lo, .long hi] (n := 6) (show 6 ≤ 6 from Nat.le_refl 6)
  have fin : ∀ (b : Bool) (pc : Nat), (∀ rs' : va_W, rs' = rs → eZ x E (eQ x E (fun w Γ => w = some (.int (eB (decide (lo ≤ v ∧ v ≤ hi)))) ∧ Γ = []) rs) ([] ++ [rs']) pc (List.replicate 6 none) [] 0 0) → W p l e (headSpec (ws_ yX0_isBetween cX0_isBetween 6 (some .boolean)) { frames := 0, cells := 0, slots := 0, locals := 0 }).room s m [Value.long v, .long lo, .long hi].toArray below meth c s.heap [] 0 0 (eQ x E (fun w Γ => w = some (.int (eB (decide (lo ≤ v ∧ v ≤ hi)))) ∧ Γ = []) rs) (F0 m pc ((lg_sl [Value.long v, .long lo, .long hi] ++ List.replicate (6 - (lg_sl [Value.long v, .long lo, .long hi]).length) Slot.unset).toArray) []) := by
    intro b pc hz
    exact hz rs rfl s.heap [] _ hP hD va_S.rf (eL.nil hen)
  have f1 : lo ≤ v ∧ v ≤ hi → W p l e (headSpec (ws_ yX0_isBetween cX0_isBetween 6 (some .boolean)) { frames := 0, cells := 0, slots := 0, locals := 0 }).room s m [Value.long v, .long lo, .long hi].toArray below meth c s.heap [] 0 0 (eQ x E (fun w Γ => w = some (.int (eB (decide (lo ≤ v ∧ v ≤ hi)))) ∧ Γ = []) rs) (F0 m 13 ((lg_sl [Value.long v, .long lo, .long hi] ++ List.replicate (6 - (lg_sl [Value.long v, .long lo, .long hi]).length) Slot.unset).toArray) []) := by
    intro h
    refine fin true 13 fun rs' e => ?_
    subst e
    refine z_iconst (v := 1) C dX0_isBetween_13 (by decide) ?_
    refine z_goto 18 C dX0_isBetween_14 (by decide) ?_
    exact z_ret (Γ := []) C dX0_isBetween_18 rfl (by decide) (Nat.le_refl _) (Nat.le_refl _) ⟨by rw [decide_eq_true h]; rfl, rfl⟩
  have f0 : ¬ (lo ≤ v ∧ v ≤ hi) → W p l e (headSpec (ws_ yX0_isBetween cX0_isBetween 6 (some .boolean)) { frames := 0, cells := 0, slots := 0, locals := 0 }).room s m [Value.long v, .long lo, .long hi].toArray below meth c s.heap [] 0 0 (eQ x E (fun w Γ => w = some (.int (eB (decide (lo ≤ v ∧ v ≤ hi)))) ∧ Γ = []) rs) (F0 m 17 ((lg_sl [Value.long v, .long lo, .long hi] ++ List.replicate (6 - (lg_sl [Value.long v, .long lo, .long hi]).length) Slot.unset).toArray) []) := by
    intro h
    refine fin true 17 fun rs' e => ?_
    subst e
    refine z_iconst (v := 0) C dX0_isBetween_17 (by decide) ?_
    exact z_ret (Γ := []) C dX0_isBetween_18 rfl (by decide) (Nat.le_refl _) (Nat.le_refl _) ⟨by rw [decide_eq_false h]; rfl, rfl⟩
  refine lv_lload_n (x := v) B.exec B.bytes dX0_isBetween_0 rfl rfl ?_
  refine lv_lload_n (x := lo) B.exec B.bytes dX0_isBetween_1 rfl rfl ?_
  refine lv_lcmp B.exec B.bytes dX0_isBetween_2 ?_
  refine lv_if_lt (tgt := 17) B.exec B.bytes dX0_isBetween_3 (by decide) (fun h => f0 (fun h2 => absurd (eCmp_lt.mp h) (Int64.not_lt.mpr h2.1))) (fun h => ?_)
  refine lv_lload_n (x := v) B.exec B.bytes dX0_isBetween_6 rfl rfl ?_
  refine lv_lload (x := hi) B.exec B.bytes dX0_isBetween_7 rfl ?_
  refine lv_lcmp B.exec B.bytes dX0_isBetween_9 ?_
  refine lv_if_gt (tgt := 17) B.exec B.bytes dX0_isBetween_10 (by decide) (fun h => f0 (fun h2 => absurd (eCmp_gt.mp h) (Int64.not_lt.mpr h2.2))) (fun h2 => ?_)
  exact f1 ⟨Int64.not_lt.mp (fun h3 => h (eCmp_lt.mpr h3)), Int64.not_lt.mp (fun h3 => h2 (eCmp_gt.mpr h3))⟩
