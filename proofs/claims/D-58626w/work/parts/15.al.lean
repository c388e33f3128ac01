/-! ===== ArrayList (ten places), Math.max, Math.min, checkIndex ===== -/
set_option maxRecDepth 100000
def eMax (a b : Int32) : Int32 := if a < b then b else a
def eMin (a b : Int32) : Int32 := if b < a then b else a
/-- a list of references: its array a, its items xs -/
def eAL (E : eEn) (q a : Nat) (m : Int32) (xs : List Nat) : va_W := eO q 12 [.int m, .ref a, .int (nI xs.length)] ++ eQA E a 10 (fun j => xs[j]?)
theorem eAL_mem {E : eEn} {q a : Nat} {m : Int32} {xs : List Nat} : (q, (.inr (12, [.int m, .ref a, .int (nI xs.length)]) : va_E)) ∈ eAL E q a m xs := List.mem_cons_self
theorem eAL_cut {E : eEn} {q a : Nat} {m : Int32} {xs : List Nat} : eAL E q a m xs = [eO q 12 [.int m, .ref a, .int (nI xs.length)], eQA E a 10 (fun j => xs[j]?)].flatten := rfl
theorem eAL_add (xs : List Nat) (i : Nat) : va_up (fun j => xs[j]?) xs.length (some i) = fun j => (xs ++ [i])[j]? := by
  funext j
  by_cases h : j = xs.length
  · subst h
    rw [va_up_self]
    simp
  · rw [va_up_ne _ _ h]
    rcases Nat.lt_or_ge j xs.length with h1 | h1
    · rw [List.getElem?_append_left h1]
    · rw [List.getElem?_eq_none h1, List.getElem?_eq_none (by simp; omega)]

set_option maxHeartbeats 4000000 in
theorem m_Math_max {l : Launch} (hl : l.stackTraces = false) (E : eEn) (a b : Int32) : eMet l E yJ6_max (ws_ yJ6_max cJ6_max 2 (some .int)) ({ frames := 0, cells := 0, slots := 0, locals := 0 }) [.int a, .int b] [] (fun v Γ => v = some (.int (eMax a b)) ∧ Γ = []) := by
  refine eStartF (cc := cJ6_max) (nL := 2) (L := [some (.int a), some (.int b)]) hl (by decide +kernel) rfl (List.forall_mem_cons.mpr ⟨rfl, (List.forall_mem_cons.mpr ⟨rfl, (fun _ h => absurd h List.not_mem_nil)⟩)⟩) (Nat.le_of_ble_eq_true rfl) ?_
  intro x rs C
  show eZ x E (eQ x E (fun v Γ => v = some (.int (eMax a b)) ∧ Γ = []) rs) [rs] 0 [some (.int a), some (.int b)] [] 0 0
  refine z_iload_n C dJ6_max_0 rfl rfl ?_
  refine z_iload_n C dJ6_max_1 rfl rfl ?_
  refine z_icmp_lt 9 C dJ6_max_2 (by decide) (fun h1 => ?_) (fun h1 => ?_)
  · refine z_iload_n C dJ6_max_9 rfl rfl ?_
    exact z_ret (Γ := []) C dJ6_max_10 rfl rfl (Nat.le_of_ble_eq_true rfl) (Nat.le_of_ble_eq_true rfl) ⟨by rw [show eMax a b = b from if_pos h1], rfl⟩
  · refine z_iload_n C dJ6_max_5 rfl rfl ?_
    refine z_goto 10 C dJ6_max_6 (by decide) ?_
    exact z_ret (Γ := []) C dJ6_max_10 rfl rfl (Nat.le_of_ble_eq_true rfl) (Nat.le_of_ble_eq_true rfl) ⟨by rw [show eMax a b = a from if_neg h1], rfl⟩

set_option maxHeartbeats 4000000 in
theorem m_Math_min {l : Launch} (hl : l.stackTraces = false) (E : eEn) (a b : Int32) : eMet l E yJ6_min (ws_ yJ6_min cJ6_min 2 (some .int)) ({ frames := 0, cells := 0, slots := 0, locals := 0 }) [.int a, .int b] [] (fun v Γ => v = some (.int (eMin a b)) ∧ Γ = []) := by
  refine eStartF (cc := cJ6_min) (nL := 2) (L := [some (.int a), some (.int b)]) hl (by decide +kernel) rfl (List.forall_mem_cons.mpr ⟨rfl, (List.forall_mem_cons.mpr ⟨rfl, (fun _ h => absurd h List.not_mem_nil)⟩)⟩) (Nat.le_of_ble_eq_true rfl) ?_
  intro x rs C
  show eZ x E (eQ x E (fun v Γ => v = some (.int (eMin a b)) ∧ Γ = []) rs) [rs] 0 [some (.int a), some (.int b)] [] 0 0
  refine z_iload_n C dJ6_min_0 rfl rfl ?_
  refine z_iload_n C dJ6_min_1 rfl rfl ?_
  refine z_icmp_gt 9 C dJ6_min_2 (by decide) (fun h1 => ?_) (fun h1 => ?_)
  · refine z_iload_n C dJ6_min_9 rfl rfl ?_
    exact z_ret (Γ := []) C dJ6_min_10 rfl rfl (Nat.le_of_ble_eq_true rfl) (Nat.le_of_ble_eq_true rfl) ⟨by rw [show eMin a b = b from if_pos h1], rfl⟩
  · refine z_iload_n C dJ6_min_5 rfl rfl ?_
    refine z_goto 10 C dJ6_min_6 (by decide) ?_
    exact z_ret (Γ := []) C dJ6_min_10 rfl rfl (Nat.le_of_ble_eq_true rfl) (Nat.le_of_ble_eq_true rfl) ⟨by rw [show eMin a b = a from if_neg h1], rfl⟩

set_option maxHeartbeats 4000000 in
theorem m_Pre_checkIndex {l : Launch} (hl : l.stackTraces = false) (E : eEn) (r : Option Nat) (N M : Nat) (hM : M < 1000000) (h : N < M) : eMet l E yJ15_checkIndex (ws_ yJ15_checkIndex cJ15_checkIndex 3 (some .int)) ({ frames := 0, cells := 0, slots := 0, locals := 0 }) [.int (nI N), .int (nI M), va_rf r] [] (fun v Γ => v = some (.int (nI N)) ∧ Γ = []) := by
  refine eStart (cc := cJ15_checkIndex) (nL := 3) (L := [some (.int (nI N)), some (.int (nI M)), some (va_rf r)]) hl (by decide) rfl (List.forall_mem_cons.mpr ⟨rfl, (List.forall_mem_cons.mpr ⟨rfl, (List.forall_mem_cons.mpr ⟨(e_catR _), (fun _ h => absurd h List.not_mem_nil)⟩)⟩)⟩) (Nat.le_of_ble_eq_true rfl) ?_
  intro x rs C
  show eZ x E (eQ x E (fun v Γ => v = some (.int (nI N)) ∧ Γ = []) rs) [rs] 0 [some (.int (nI N)), some (.int (nI M)), some (va_rf r)] [] 0 0
  refine z_iload_n C dJ15_checkIndex_0 rfl rfl ?_
  refine z_if_lt 9 C dJ15_checkIndex_1 (by decide) (fun h1 => ?_) (fun h1 => ?_)
  · exact absurd h1 (nI_pos (by omega))
  · refine z_iload_n C dJ15_checkIndex_4 rfl rfl ?_
    refine z_iload_n C dJ15_checkIndex_5 rfl rfl ?_
    refine z_icmp_lt 16 C dJ15_checkIndex_6 (by decide) (fun h2 => ?_) (fun h2 => ?_)
    · refine z_iload_n C dJ15_checkIndex_16 rfl rfl ?_
      exact z_ret (Γ := []) C dJ15_checkIndex_17 rfl rfl (Nat.le_of_ble_eq_true rfl) (Nat.le_of_ble_eq_true rfl) ⟨rfl, rfl⟩
    · exact absurd (nI_lt h (by omega)) h2

set_option maxHeartbeats 4000000 in
theorem m_Obj_checkIndex {l : Launch} (hl : l.stackTraces = false) (E : eEn) (N M : Nat) (hM : M < 1000000) (h : N < M) : eMet l E yJ14_checkIndex (ws_ yJ14_checkIndex cJ14_checkIndex 2 (some .int)) ({ frames := 1, cells := 0, slots := 0, locals := 22 }) [.int (nI N), .int (nI M)] [] (fun v Γ => v = some (.int (nI N)) ∧ Γ = []) := by
  refine eStart (cc := cJ14_checkIndex) (nL := 2) (L := [some (.int (nI N)), some (.int (nI M))]) hl (by decide) rfl (List.forall_mem_cons.mpr ⟨rfl, (List.forall_mem_cons.mpr ⟨rfl, (fun _ h => absurd h List.not_mem_nil)⟩)⟩) (Nat.le_of_ble_eq_true rfl) ?_
  intro x rs C
  show eZ x E (eQ x E (fun v Γ => v = some (.int (nI N)) ∧ Γ = []) rs) [rs] 0 [some (.int (nI N)), some (.int (nI M))] [] 0 0
  refine z_iload_n C dJ14_checkIndex_0 rfl rfl ?_
  refine z_iload_n C dJ14_checkIndex_1 rfl rfl ?_
  refine z_null C dJ14_checkIndex_2 ?_
  refine z_callS (As := [.int (nI N), .int (nI M), .null]) (rest := []) (Δ := [rs]) [] [0] 3 (m_Pre_checkIndex hl E none N M hM h) C dJ14_checkIndex_3 rfl rfl rfl q511 q512 q70 q513 (by decide +kernel) rfl rfl rfl rfl ⟨Nat.le_of_ble_eq_true rfl, Nat.le_of_ble_eq_true rfl⟩ (Nat.le_trans eS0 (Nat.le_of_ble_eq_true rfl)) ⟨Nat.le_of_ble_eq_true rfl, Nat.le_of_ble_eq_true rfl⟩ (fun v_ Γ_ hp_ => ?_)
  obtain ⟨rfl, rfl⟩ := hp_
  show eZ x E _ [rs] 6 [some (.int (nI N)), some (.int (nI M))] [.int (nI N)] 0 0
  exact z_ret (Γ := []) C dJ14_checkIndex_6 rfl rfl (Nat.le_of_ble_eq_true rfl) (Nat.le_of_ble_eq_true rfl) ⟨rfl, rfl⟩

set_option maxHeartbeats 4000000 in
theorem m_AL_init {l : Launch} (hl : l.stackTraces = false) (E : eEn) (q : Nat) : eMet l E yJ2_init (ws_ yJ2_init cJ2_init 1 none) ({ frames := 3, cells := 0, slots := 0, locals := 52 }) [.ref q] [eO q 12 [.int 0, .null, .int 0]] (fun v Γ => v = none ∧ Γ = [eO q 12 [.int 0, .ref (E.2.2.2 0), .int 0]]) := by
  refine eStart (cc := cJ2_init) (nL := 1) (L := [some (.ref q)]) hl (by decide) rfl (List.forall_mem_cons.mpr ⟨rfl, (fun _ h => absurd h List.not_mem_nil)⟩) (Nat.le_of_ble_eq_true rfl) ?_
  intro x rs C
  show eZ x E (eQ x E (fun v Γ => v = none ∧ Γ = [eO q 12 [.int 0, .ref (E.2.2.2 0), .int 0]]) rs) [eO q 12 [.int 0, .null, .int 0], rs] 0 [some (.ref q)] [] 0 0
  refine z_aload_n C dJ2_init_0 rfl rfl ?_
  refine z_callI (As := []) (rest := []) (Δ := [rs]) [0] [1] 0 (m_AbsList_init_AL hl E q) C dJ2_init_1 rfl rfl rfl q112 q113 q52 q114 rfl (by decide +kernel) rfl rfl rfl rfl ⟨Nat.le_of_ble_eq_true rfl, Nat.le_of_ble_eq_true rfl⟩ (Nat.le_trans eS0 (Nat.le_of_ble_eq_true rfl)) ⟨Nat.le_of_ble_eq_true rfl, Nat.le_of_ble_eq_true rfl⟩ (fun v_ Γ_ hp_ => ?_)
  obtain ⟨rfl, rfl⟩ := hp_
  show eZ x E _ [eO q 12 [.int 0, .null, .int 0], rs] 4 [some (.ref q)] [] 0 0
  refine z_aload_n C dJ2_init_4 rfl rfl ?_
  refine z_getsE C dJ2_init_5 rfl q119 rfl ?_
  refine z_put eK12 0 1 (Γ2 := [eO q 12 [.int 0, .ref (E.2.2.2 0), .int 0], rs]) C dJ2_init_8 rfl rfl q121 (eSame1 rfl) (by decide) rfl rfl rfl rfl (Nat.le_of_ble_eq_true rfl) rfl ?_
  exact z_vret (Γ := [eO q 12 [.int 0, .ref (E.2.2.2 0), .int 0]]) C dJ2_init_11 rfl (Nat.le_of_ble_eq_true rfl) (Nat.le_of_ble_eq_true rfl) ⟨rfl, rfl⟩

set_option maxHeartbeats 4000000 in
theorem m_AL_grow2 {l : Launch} (hl : l.stackTraces = false) (E : eEn) (q : Nat) (m : Int32) : eMet l E yJ2_grow_2 (ws_ yJ2_grow_2 cJ2_grow_2 4 (some (.array (.object "java/lang/Object")))) ({ frames := 1, cells := 1, slots := 10, locals := 21 }) [.ref q, .int 1] [eO q 12 [.int m, .ref (E.2.2.2 0), .int 0]] (fun v Γ => ∃ a, v = some (.ref a) ∧ Γ = [eO q 12 [.int m, .ref a, .int 0], eQA E a 10 (fun _ => none)]) := by
  refine eStart (cc := cJ2_grow_2) (nL := 4) (L := [some (.ref q), some (.int 1), none, none]) hl (by decide) rfl (List.forall_mem_cons.mpr ⟨rfl, (List.forall_mem_cons.mpr ⟨rfl, (fun _ h => absurd h List.not_mem_nil)⟩)⟩) (Nat.le_of_ble_eq_true rfl) ?_
  intro x rs C
  show eZ x E (eQ x E (fun v Γ => ∃ a, v = some (.ref a) ∧ Γ = [eO q 12 [.int m, .ref a, .int 0], eQA E a 10 (fun _ => none)]) rs) [eO q 12 [.int m, .ref (E.2.2.2 0), .int 0], rs] 0 [some (.ref q), some (.int 1), none, none] [] 0 0
  refine z_aload_n C dJ2_grow_2_0 rfl rfl ?_
  refine z_get eK12 0 1 C dJ2_grow_2_1 rfl rfl q121 (eSame1 rfl) (by decide) rfl ?_
  refine z_alenE C dJ2_grow_2_4 ?_
  refine z_istore_n (L2 := [some (.ref q), some (.int 1), some (.int 0), none]) C dJ2_grow_2_5 rfl (Nat.le_of_ble_eq_true rfl) rfl ?_
  refine z_iload_n C dJ2_grow_2_6 rfl rfl ?_
  refine z_if_gt 20 C dJ2_grow_2_7 (by decide) (fun h1 => ?_) (fun h1 => ?_)
  · exact absurd h1 (by decide)
  · refine z_aload_n C dJ2_grow_2_10 rfl rfl ?_
    refine z_get eK12 0 1 C dJ2_grow_2_11 rfl rfl q121 (eSame1 rfl) (by decide) rfl ?_
    refine z_getsE C dJ2_grow_2_14 rfl q119 rfl ?_
    refine z_acmp_eq (r := some (E.2.2.2 0)) (s := some (E.2.2.2 0)) 45 C dJ2_grow_2_17 (by decide) (fun h2 => ?_) (fun h2 => ?_)
    · refine z_aload_n C dJ2_grow_2_45 rfl rfl ?_
      refine z_bipush (v := 10) C dJ2_grow_2_46 (by decide) ?_
      refine z_iload_n C dJ2_grow_2_48 rfl rfl ?_
      refine z_callS (As := [.int 10, .int 1]) (rest := [.ref q]) (Δ := [eO q 12 [.int m, .ref (E.2.2.2 0), .int 0], rs]) [] [0, 1] 2 (m_Math_max hl E 10 1) C dJ2_grow_2_49 rfl rfl rfl q273 q225 q58 q226 (by decide +kernel) rfl rfl rfl rfl ⟨Nat.le_of_ble_eq_true rfl, Nat.le_of_ble_eq_true rfl⟩ (Nat.le_trans (eSm rfl eS0) (Nat.le_of_ble_eq_true rfl)) ⟨Nat.le_of_ble_eq_true rfl, Nat.le_of_ble_eq_true rfl⟩ (fun v_ Γ_ hp_ => ?_)
      obtain ⟨rfl, rfl⟩ := hp_
      show eZ x E _ [eO q 12 [.int m, .ref (E.2.2.2 0), .int 0], rs] 52 [some (.ref q), some (.int 1), some (.int 0), none] [.int (eMax 10 1), .ref q] 0 0
      refine z_is (w := 10) (by decide) ?_
      refine z_newQ (m := 10) C dJ2_grow_2_52 rfl q274 rfl (by decide) (Nat.le_of_ble_eq_true rfl) (Nat.le_of_ble_eq_true rfl) (fun a1 => ?_)
      show eZ x E _ [eO q 12 [.int m, .ref (E.2.2.2 0), .int 0], rs, eQA E a1 10 (fun _ => none)] 55 [some (.ref q), some (.int 1), some (.int 0), none] [.ref a1, .ref q] 1 10
      refine z_dup_x1 C dJ2_grow_2_55 rfl rfl ?_
      refine z_put eK12 0 1 (Γ2 := [eO q 12 [.int m, .ref a1, .int 0], rs, eQA E a1 10 (fun _ => none)]) C dJ2_grow_2_56 rfl rfl q121 (eSame1 rfl) (by decide) rfl rfl rfl rfl (Nat.le_of_ble_eq_true rfl) rfl ?_
      refine z_pick (Γ' := [eO q 12 [.int m, .ref a1, .int 0], eQA E a1 10 (fun _ => none), rs]) [0, 2, 1] rfl rfl ?_
      exact z_aret (Γ := [eO q 12 [.int m, .ref a1, .int 0], eQA E a1 10 (fun _ => none)]) C dJ2_grow_2_59 rfl (Or.inr ⟨_, rfl⟩) (Or.inr ⟨_, rfl⟩) (Nat.le_of_ble_eq_true rfl) (Nat.le_of_ble_eq_true rfl) ⟨a1, rfl, rfl⟩
    · exact absurd rfl h2

set_option maxHeartbeats 4000000 in
theorem m_AL_grow {l : Launch} (hl : l.stackTraces = false) (E : eEn) (q : Nat) (m : Int32) : eMet l E yJ2_grow (ws_ yJ2_grow cJ2_grow 1 (some (.array (.object "java/lang/Object")))) ({ frames := 2, cells := 1, slots := 10, locals := 44 }) [.ref q] [eO q 12 [.int m, .ref (E.2.2.2 0), .int 0]] (fun v Γ => ∃ a, v = some (.ref a) ∧ Γ = [eO q 12 [.int m, .ref a, .int 0], eQA E a 10 (fun _ => none)]) := by
  refine eStart (cc := cJ2_grow) (nL := 1) (L := [some (.ref q)]) hl (by decide) rfl (List.forall_mem_cons.mpr ⟨rfl, (fun _ h => absurd h List.not_mem_nil)⟩) (Nat.le_of_ble_eq_true rfl) ?_
  intro x rs C
  show eZ x E (eQ x E (fun v Γ => ∃ a, v = some (.ref a) ∧ Γ = [eO q 12 [.int m, .ref a, .int 0], eQA E a 10 (fun _ => none)]) rs) [eO q 12 [.int m, .ref (E.2.2.2 0), .int 0], rs] 0 [some (.ref q)] [] 0 0
  refine z_aload_n C dJ2_grow_0 rfl rfl ?_
  refine z_aload_n C dJ2_grow_1 rfl rfl ?_
  refine z_get eK12 0 2 C dJ2_grow_2 rfl rfl q124 (eSame1 rfl) (by decide) rfl ?_
  refine z_iconst (v := 1) C dJ2_grow_5 (by decide) ?_
  refine z_iadd (w := 1) C dJ2_grow_6 (by decide) ?_
  refine z_callV (r := (RJ2, TJ2, 3)) (As := [.int 1]) (rest := []) (Δ := [rs]) [0] [1] 1 (m_AL_grow2 hl E q m) C dJ2_grow_7 rfl rfl (eIn (i := 0) rfl List.mem_cons_self) rfl rfl q217 q219 qs2 q53 q220 (by decide +kernel) rfl rfl rfl rfl ⟨Nat.le_of_ble_eq_true rfl, Nat.le_of_ble_eq_true rfl⟩ (Nat.le_trans eS0 (Nat.le_of_ble_eq_true rfl)) ⟨Nat.le_of_ble_eq_true rfl, Nat.le_of_ble_eq_true rfl⟩ (fun v_ Γ_ hp_ => ?_)
  obtain ⟨a, rfl, rfl⟩ := hp_
  show eZ x E _ [eO q 12 [.int m, .ref a, .int 0], eQA E a 10 (fun _ => none), rs] 10 [some (.ref q)] [.ref a] 1 10
  exact z_aret (Γ := [eO q 12 [.int m, .ref a, .int 0], eQA E a 10 (fun _ => none)]) C dJ2_grow_10 rfl (Or.inr ⟨_, rfl⟩) (Or.inr ⟨_, rfl⟩) (Nat.le_of_ble_eq_true rfl) (Nat.le_of_ble_eq_true rfl) ⟨a, rfl, rfl⟩

set_option maxHeartbeats 4000000 in
theorem m_AL_add2_0 {l : Launch} (hl : l.stackTraces = false) (E : eEn) (q : Nat) (m : Int32) (i ci : Nat) (fs : List Value) (r : vw_C) (b : va_W) (hb : (i, (.inr (ci, fs) : va_E)) ∈ b) (hc : eCl[ci]? = some r) (hq : Cond.castable r.1 "java/lang/Object" ∈ lw_tbl) : eMet l E yJ2_add_2 (ws_ yJ2_add_2 cJ2_add_2 4 none) ({ frames := 3, cells := 1, slots := 10, locals := 64 }) [.ref q, .ref i, .ref (E.2.2.2 0), .int 0] [eO q 12 [.int m, .ref (E.2.2.2 0), .int 0], b] (fun v Γ => v = none ∧ ∃ a, Γ = [eAL E q a m [i], b]) := by
  refine eStart (cc := cJ2_add_2) (nL := 4) (L := [some (.ref q), some (.ref i), some (.ref (E.2.2.2 0)), some (.int 0)]) hl (by decide) rfl (List.forall_mem_cons.mpr ⟨rfl, (List.forall_mem_cons.mpr ⟨rfl, (List.forall_mem_cons.mpr ⟨rfl, (List.forall_mem_cons.mpr ⟨rfl, (fun _ h => absurd h List.not_mem_nil)⟩)⟩)⟩)⟩) (Nat.le_of_ble_eq_true rfl) ?_
  intro x rs C
  show eZ x E (eQ x E (fun v Γ => v = none ∧ ∃ a, Γ = [eAL E q a m [i], b]) rs) [eO q 12 [.int m, .ref (E.2.2.2 0), .int 0], b, rs] 0 [some (.ref q), some (.ref i), some (.ref (E.2.2.2 0)), some (.int 0)] [] 0 0
  refine z_iload_n C dJ2_add_2_0 rfl rfl ?_
  refine z_aload_n C dJ2_add_2_1 rfl rfl ?_
  refine z_alenE C dJ2_add_2_2 ?_
  refine z_icmp_ne 11 C dJ2_add_2_3 (by decide) (fun h1 => ?_) (fun h1 => ?_)
  · exact absurd rfl h1
  · refine z_aload_n C dJ2_add_2_6 rfl rfl ?_
    refine z_callV (r := (RJ2, TJ2, 3)) (As := []) (rest := []) (Δ := [b, rs]) [0] [1, 2] 0 (m_AL_grow hl E q m) C dJ2_add_2_7 rfl rfl (eIn (i := 0) rfl List.mem_cons_self) rfl rfl q213 q215 qs1 q53 q216 (by decide +kernel) rfl rfl rfl rfl ⟨Nat.le_of_ble_eq_true rfl, Nat.le_of_ble_eq_true rfl⟩ (Nat.le_trans eS0 (Nat.le_of_ble_eq_true rfl)) ⟨Nat.le_of_ble_eq_true rfl, Nat.le_of_ble_eq_true rfl⟩ (fun v_ Γ_ hp_ => ?_)
    obtain ⟨a, rfl, rfl⟩ := hp_
    show eZ x E _ [eO q 12 [.int m, .ref a, .int 0], eQA E a 10 (fun _ => none), b, rs] 10 [some (.ref q), some (.ref i), some (.ref (E.2.2.2 0)), some (.int 0)] [.ref a] 1 10
    refine z_astore_n (L2 := [some (.ref q), some (.ref i), some (.ref a), some (.int 0)]) C dJ2_add_2_10 rfl (Nat.le_of_ble_eq_true rfl) rfl ?_
    refine z_aload_n C dJ2_add_2_11 rfl rfl ?_
    refine z_iload_n C dJ2_add_2_12 rfl rfl ?_
    refine z_aload_n C dJ2_add_2_13 rfl rfl ?_
    refine z_aast (m := 0) (Γ2 := [eO q 12 [.int m, .ref a, .int 0], eQA E a 10 (fun j => ([] ++ [i])[j]?), b, rs]) 1 C dJ2_add_2_14 rfl (eIn (i := 2) rfl hb) hc hq rfl (by decide) (by decide) (by rw [show va_up (fun _ => none) 0 (some i) = fun j => ([] ++ [i])[j]? from eAL_add [] i]; rfl) ?_
    refine z_aload_n C dJ2_add_2_15 rfl rfl ?_
    refine z_iload_n C dJ2_add_2_16 rfl rfl ?_
    refine z_iconst (v := 1) C dJ2_add_2_17 (by decide) ?_
    refine z_iadd (w := nI 1) C dJ2_add_2_18 (by decide) ?_
    refine z_put eK12 0 2 (Γ2 := [eO q 12 [.int m, .ref a, .int (nI 1)], eQA E a 10 (fun j => ([] ++ [i])[j]?), b, rs]) C dJ2_add_2_19 rfl rfl q124 (eSame1 rfl) (by decide) rfl rfl rfl rfl (Nat.le_of_ble_eq_true rfl) rfl ?_
    refine z_join 2 (b := eAL E q a m [i]) rfl rfl ?_
    show eZ x E _ [eAL E q a m [i], b, rs] 22 [some (.ref q), some (.ref i), some (.ref a), some (.int 0)] [] 1 10
    exact z_vret (Γ := [eAL E q a m [i], b]) C dJ2_add_2_22 rfl (Nat.le_of_ble_eq_true rfl) (Nat.le_of_ble_eq_true rfl) ⟨rfl, a, rfl⟩

set_option maxHeartbeats 4000000 in
theorem m_AL_add_0 {l : Launch} (hl : l.stackTraces = false) (E : eEn) (q : Nat) (m : Int32) (i ci : Nat) (fs : List Value) (r : vw_C) (b : va_W) (hb : (i, (.inr (ci, fs) : va_E)) ∈ b) (hc : eCl[ci]? = some r) (hq : Cond.castable r.1 "java/lang/Object" ∈ lw_tbl) : eMet l E yJ2_add (ws_ yJ2_add cJ2_add 2 (some .boolean)) ({ frames := 4, cells := 1, slots := 10, locals := 87 }) [.ref q, .ref i] [eO q 12 [.int m, .ref (E.2.2.2 0), .int 0], b] (fun v Γ => v = some (.int 1) ∧ ∃ a, Γ = [eAL E q a (m + 1) [i], b]) := by
  refine eStart (cc := cJ2_add) (nL := 2) (L := [some (.ref q), some (.ref i)]) hl (by decide) rfl (List.forall_mem_cons.mpr ⟨rfl, (List.forall_mem_cons.mpr ⟨rfl, (fun _ h => absurd h List.not_mem_nil)⟩)⟩) (Nat.le_of_ble_eq_true rfl) ?_
  intro x rs C
  show eZ x E (eQ x E (fun v Γ => v = some (.int 1) ∧ ∃ a, Γ = [eAL E q a (m + 1) [i], b]) rs) [eO q 12 [.int m, .ref (E.2.2.2 0), .int 0], b, rs] 0 [some (.ref q), some (.ref i)] [] 0 0
  refine z_aload_n C dJ2_add_0 rfl rfl ?_
  refine z_dup C dJ2_add_1 rfl ?_
  refine z_get eK12 0 0 C dJ2_add_2 rfl rfl q132 (eSame2 C q129) (by decide) rfl ?_
  refine z_iconst (v := 1) C dJ2_add_5 (by decide) ?_
  refine z_iadd (w := m + 1) C dJ2_add_6 rfl ?_
  refine z_put eK12 0 0 (Γ2 := [eO q 12 [.int (m + 1), .ref (E.2.2.2 0), .int 0], b, rs]) C dJ2_add_7 rfl rfl q132 (eSame2 C q129) (by decide) rfl rfl rfl rfl (Nat.le_of_ble_eq_true rfl) rfl ?_
  refine z_aload_n C dJ2_add_10 rfl rfl ?_
  refine z_aload_n C dJ2_add_11 rfl rfl ?_
  refine z_aload_n C dJ2_add_12 rfl rfl ?_
  refine z_get eK12 0 1 C dJ2_add_13 rfl rfl q121 (eSame1 rfl) (by decide) rfl ?_
  refine z_aload_n C dJ2_add_16 rfl rfl ?_
  refine z_get eK12 0 2 C dJ2_add_17 rfl rfl q124 (eSame1 rfl) (by decide) rfl ?_
  refine z_callV (r := (RJ2, TJ2, 3)) (As := [.ref i, .ref (E.2.2.2 0), .int 0]) (rest := []) (Δ := [rs]) [0, 1] [2] 3 (m_AL_add2_0 hl E q (m + 1) i ci fs r b hb hc hq) C dJ2_add_20 rfl rfl (eIn (i := 0) rfl List.mem_cons_self) rfl rfl q209 q211 qs0 q53 q212 (by decide +kernel) rfl rfl rfl rfl ⟨Nat.le_of_ble_eq_true rfl, Nat.le_of_ble_eq_true rfl⟩ (Nat.le_trans eS0 (Nat.le_of_ble_eq_true rfl)) ⟨Nat.le_of_ble_eq_true rfl, Nat.le_of_ble_eq_true rfl⟩ (fun v_ Γ_ hp_ => ?_)
  obtain ⟨rfl, a, rfl⟩ := hp_
  show eZ x E _ [eAL E q a (m + 1) [i], b, rs] 23 [some (.ref q), some (.ref i)] [] 1 10
  refine z_iconst (v := 1) C dJ2_add_23 (by decide) ?_
  exact z_ret (Γ := [eAL E q a (m + 1) [i], b]) C dJ2_add_24 rfl (by decide) (Nat.le_of_ble_eq_true rfl) (Nat.le_of_ble_eq_true rfl) ⟨rfl, a, rfl⟩

set_option maxHeartbeats 4000000 in
theorem m_AL_add2 {l : Launch} (hl : l.stackTraces = false) (E : eEn) (q a : Nat) (m : Int32) (xs : List Nat) (hx : xs.length < 10) (i ci : Nat) (fs : List Value) (r : vw_C) (b : va_W) (hb : (i, (.inr (ci, fs) : va_E)) ∈ b) (hc : eCl[ci]? = some r) (hq : Cond.castable r.1 "java/lang/Object" ∈ lw_tbl) : eMet l E yJ2_add_2 (ws_ yJ2_add_2 cJ2_add_2 4 none) ({ frames := 0, cells := 0, slots := 0, locals := 0 }) [.ref q, .ref i, .ref a, .int (nI xs.length)] [eAL E q a m xs, b] (fun v Γ => v = none ∧ Γ = [eAL E q a m (xs ++ [i]), b]) := by
  refine eStart (cc := cJ2_add_2) (nL := 4) (L := [some (.ref q), some (.ref i), some (.ref a), some (.int (nI xs.length))]) hl (by decide) rfl (List.forall_mem_cons.mpr ⟨rfl, (List.forall_mem_cons.mpr ⟨rfl, (List.forall_mem_cons.mpr ⟨rfl, (List.forall_mem_cons.mpr ⟨rfl, (fun _ h => absurd h List.not_mem_nil)⟩)⟩)⟩)⟩) (Nat.le_of_ble_eq_true rfl) ?_
  intro x rs C
  show eZ x E (eQ x E (fun v Γ => v = none ∧ Γ = [eAL E q a m (xs ++ [i]), b]) rs) [eAL E q a m xs, b, rs] 0 [some (.ref q), some (.ref i), some (.ref a), some (.int (nI xs.length))] [] 0 0
  refine z_cut 0 (bs := [eO q 12 [.int m, .ref a, .int (nI xs.length)], eQA E a 10 (fun j => xs[j]?)]) rfl eAL_cut rfl ?_
  show eZ x E _ [eO q 12 [.int m, .ref a, .int (nI xs.length)], eQA E a 10 (fun j => xs[j]?), b, rs] 0 [some (.ref q), some (.ref i), some (.ref a), some (.int (nI xs.length))] [] 0 0
  refine z_iload_n C dJ2_add_2_0 rfl rfl ?_
  refine z_aload_n C dJ2_add_2_1 rfl rfl ?_
  refine z_alenq (v := 10) 1 C dJ2_add_2_2 rfl rfl ?_
  refine z_icmp_ne 11 C dJ2_add_2_3 (by decide) (fun h1 => ?_) (fun h1 => ?_)
  · refine z_aload_n C dJ2_add_2_11 rfl rfl ?_
    refine z_iload_n C dJ2_add_2_12 rfl rfl ?_
    refine z_aload_n C dJ2_add_2_13 rfl rfl ?_
    refine z_aast (m := xs.length) (Γ2 := [eO q 12 [.int m, .ref a, .int (nI xs.length)], eQA E a 10 (fun j => (xs ++ [i])[j]?), b, rs]) 1 C dJ2_add_2_14 rfl (eIn (i := 2) rfl hb) hc hq rfl (by omega) (by decide) (by rw [eAL_add]; rfl) ?_
    refine z_aload_n C dJ2_add_2_15 rfl rfl ?_
    refine z_iload_n C dJ2_add_2_16 rfl rfl ?_
    refine z_iconst (v := 1) C dJ2_add_2_17 (by decide) ?_
    refine z_iadd (w := nI (xs ++ [i]).length) C dJ2_add_2_18 (by rw [List.length_append]; exact nI_1 _) ?_
    refine z_put eK12 0 2 (Γ2 := [eO q 12 [.int m, .ref a, .int (nI (xs ++ [i]).length)], eQA E a 10 (fun j => (xs ++ [i])[j]?), b, rs]) C dJ2_add_2_19 rfl rfl q124 (eSame1 rfl) (by decide) rfl rfl rfl rfl (Nat.le_of_ble_eq_true rfl) rfl ?_
    refine z_join 2 (b := eAL E q a m (xs ++ [i])) rfl rfl ?_
    show eZ x E _ [eAL E q a m (xs ++ [i]), b, rs] 22 [some (.ref q), some (.ref i), some (.ref a), some (.int (nI xs.length))] [] 0 0
    exact z_vret (Γ := [eAL E q a m (xs ++ [i]), b]) C dJ2_add_2_22 rfl (Nat.le_of_ble_eq_true rfl) (Nat.le_of_ble_eq_true rfl) ⟨rfl, rfl⟩
  · exact absurd h1 (fun h => absurd ((nI_eq (b := 10) (by omega) (by decide)).mp h) (by omega))

set_option maxHeartbeats 4000000 in
theorem m_AL_add {l : Launch} (hl : l.stackTraces = false) (E : eEn) (q a : Nat) (m : Int32) (xs : List Nat) (hx : xs.length < 10) (i ci : Nat) (fs : List Value) (r : vw_C) (b : va_W) (hb : (i, (.inr (ci, fs) : va_E)) ∈ b) (hc : eCl[ci]? = some r) (hq : Cond.castable r.1 "java/lang/Object" ∈ lw_tbl) : eMet l E yJ2_add (ws_ yJ2_add cJ2_add 2 (some .boolean)) ({ frames := 1, cells := 0, slots := 0, locals := 23 }) [.ref q, .ref i] [eAL E q a m xs, b] (fun v Γ => v = some (.int 1) ∧ Γ = [eAL E q a (m + 1) (xs ++ [i]), b]) := by
  refine eStart (cc := cJ2_add) (nL := 2) (L := [some (.ref q), some (.ref i)]) hl (by decide) rfl (List.forall_mem_cons.mpr ⟨rfl, (List.forall_mem_cons.mpr ⟨rfl, (fun _ h => absurd h List.not_mem_nil)⟩)⟩) (Nat.le_of_ble_eq_true rfl) ?_
  intro x rs C
  show eZ x E (eQ x E (fun v Γ => v = some (.int 1) ∧ Γ = [eAL E q a (m + 1) (xs ++ [i]), b]) rs) [eAL E q a m xs, b, rs] 0 [some (.ref q), some (.ref i)] [] 0 0
  refine z_cut 0 (bs := [eO q 12 [.int m, .ref a, .int (nI xs.length)], eQA E a 10 (fun j => xs[j]?)]) rfl eAL_cut rfl ?_
  show eZ x E _ [eO q 12 [.int m, .ref a, .int (nI xs.length)], eQA E a 10 (fun j => xs[j]?), b, rs] 0 [some (.ref q), some (.ref i)] [] 0 0
  refine z_aload_n C dJ2_add_0 rfl rfl ?_
  refine z_dup C dJ2_add_1 rfl ?_
  refine z_get eK12 0 0 C dJ2_add_2 rfl rfl q132 (eSame2 C q129) (by decide) rfl ?_
  refine z_iconst (v := 1) C dJ2_add_5 (by decide) ?_
  refine z_iadd (w := m + 1) C dJ2_add_6 rfl ?_
  refine z_put eK12 0 0 (Γ2 := [eO q 12 [.int (m + 1), .ref a, .int (nI xs.length)], eQA E a 10 (fun j => xs[j]?), b, rs]) C dJ2_add_7 rfl rfl q132 (eSame2 C q129) (by decide) rfl rfl rfl rfl (Nat.le_of_ble_eq_true rfl) rfl ?_
  refine z_aload_n C dJ2_add_10 rfl rfl ?_
  refine z_aload_n C dJ2_add_11 rfl rfl ?_
  refine z_aload_n C dJ2_add_12 rfl rfl ?_
  refine z_get eK12 0 1 C dJ2_add_13 rfl rfl q121 (eSame1 rfl) (by decide) rfl ?_
  refine z_aload_n C dJ2_add_16 rfl rfl ?_
  refine z_get eK12 0 2 C dJ2_add_17 rfl rfl q124 (eSame1 rfl) (by decide) rfl ?_
  refine z_join 2 (b := eAL E q a (m + 1) xs) rfl rfl ?_
  show eZ x E _ [eAL E q a (m + 1) xs, b, rs] 20 [some (.ref q), some (.ref i)] [.int (nI xs.length), .ref a, .ref i, .ref q] 0 0
  refine z_callV (r := (RJ2, TJ2, 3)) (As := [.ref i, .ref a, .int (nI xs.length)]) (rest := []) (Δ := [rs]) [0, 1] [2] 3 (m_AL_add2 hl E q a (m + 1) xs hx i ci fs r b hb hc hq) C dJ2_add_20 rfl rfl (eIn (i := 0) rfl eAL_mem) rfl rfl q209 q211 qs0 q53 q212 (by decide +kernel) rfl rfl rfl rfl ⟨Nat.le_of_ble_eq_true rfl, Nat.le_of_ble_eq_true rfl⟩ (Nat.le_trans eS0 (Nat.le_of_ble_eq_true rfl)) ⟨Nat.le_of_ble_eq_true rfl, Nat.le_of_ble_eq_true rfl⟩ (fun v_ Γ_ hp_ => ?_)
  obtain ⟨rfl, rfl⟩ := hp_
  show eZ x E _ [eAL E q a (m + 1) (xs ++ [i]), b, rs] 23 [some (.ref q), some (.ref i)] [] 0 0
  refine z_iconst (v := 1) C dJ2_add_23 (by decide) ?_
  exact z_ret (Γ := [eAL E q a (m + 1) (xs ++ [i]), b]) C dJ2_add_24 rfl (by decide) (Nat.le_of_ble_eq_true rfl) (Nat.le_of_ble_eq_true rfl) ⟨rfl, rfl⟩

set_option maxHeartbeats 4000000 in
theorem m_AL_elementData {l : Launch} (hl : l.stackTraces = false) (E : eEn) (q a : Nat) (m : Int32) (xs : List Nat) (hx : xs.length ≤ 10) (N i : Nat) (h : xs[N]? = some i) : eMet l E yJ2_elementData (ws_ yJ2_elementData cJ2_elementData 2 (some (.object "java/lang/Object"))) ({ frames := 0, cells := 0, slots := 0, locals := 0 }) [.ref q, .int (nI N)] [eAL E q a m xs] (fun v Γ => v = some (.ref i) ∧ Γ = [eAL E q a m xs]) := by
  refine eStart (cc := cJ2_elementData) (nL := 2) (L := [some (.ref q), some (.int (nI N))]) hl (by decide) rfl (List.forall_mem_cons.mpr ⟨rfl, (List.forall_mem_cons.mpr ⟨rfl, (fun _ h => absurd h List.not_mem_nil)⟩)⟩) (Nat.le_of_ble_eq_true rfl) ?_
  intro x rs C
  show eZ x E (eQ x E (fun v Γ => v = some (.ref i) ∧ Γ = [eAL E q a m xs]) rs) [eAL E q a m xs, rs] 0 [some (.ref q), some (.int (nI N))] [] 0 0
  have hN : N < xs.length := (List.getElem?_eq_some_iff.mp h).1
  refine z_cut 0 (bs := [eO q 12 [.int m, .ref a, .int (nI xs.length)], eQA E a 10 (fun j => xs[j]?)]) rfl eAL_cut rfl ?_
  show eZ x E _ [eO q 12 [.int m, .ref a, .int (nI xs.length)], eQA E a 10 (fun j => xs[j]?), rs] 0 [some (.ref q), some (.int (nI N))] [] 0 0
  refine z_aload_n C dJ2_elementData_0 rfl rfl ?_
  refine z_get eK12 0 1 C dJ2_elementData_1 rfl rfl q121 (eSame1 rfl) (by decide) rfl ?_
  refine z_iload_n C dJ2_elementData_4 rfl rfl ?_
  refine z_aald (m := N) (v := .ref i) 1 C dJ2_elementData_5 rfl rfl (by omega) (by decide) (by show va_rf (xs[N]?) = _; rw [h]; rfl) ?_
  refine z_join 2 (b := eAL E q a m xs) rfl rfl ?_
  show eZ x E _ [eAL E q a m xs, rs] 6 [some (.ref q), some (.int (nI N))] [.ref i] 0 0
  exact z_aret (Γ := [eAL E q a m xs]) C dJ2_elementData_6 rfl (Or.inl ⟨_, rfl⟩) (Or.inr ⟨_, rfl⟩) (Nat.le_of_ble_eq_true rfl) (Nat.le_of_ble_eq_true rfl) ⟨rfl, rfl⟩

set_option maxHeartbeats 4000000 in
theorem m_AL_get {l : Launch} (hl : l.stackTraces = false) (E : eEn) (q a : Nat) (m : Int32) (xs : List Nat) (hx : xs.length ≤ 10) (N i : Nat) (h : xs[N]? = some i) : eMet l E yJ2_get (ws_ yJ2_get cJ2_get 2 (some (.object "java/lang/Object"))) ({ frames := 2, cells := 0, slots := 0, locals := 43 }) [.ref q, .int (nI N)] [eAL E q a m xs] (fun v Γ => v = some (.ref i) ∧ Γ = [eAL E q a m xs]) := by
  refine eStart (cc := cJ2_get) (nL := 2) (L := [some (.ref q), some (.int (nI N))]) hl (by decide) rfl (List.forall_mem_cons.mpr ⟨rfl, (List.forall_mem_cons.mpr ⟨rfl, (fun _ h => absurd h List.not_mem_nil)⟩)⟩) (Nat.le_of_ble_eq_true rfl) ?_
  intro x rs C
  show eZ x E (eQ x E (fun v Γ => v = some (.ref i) ∧ Γ = [eAL E q a m xs]) rs) [eAL E q a m xs, rs] 0 [some (.ref q), some (.int (nI N))] [] 0 0
  have hN : N < xs.length := (List.getElem?_eq_some_iff.mp h).1
  refine z_cut 0 (bs := [eO q 12 [.int m, .ref a, .int (nI xs.length)], eQA E a 10 (fun j => xs[j]?)]) rfl eAL_cut rfl ?_
  show eZ x E _ [eO q 12 [.int m, .ref a, .int (nI xs.length)], eQA E a 10 (fun j => xs[j]?), rs] 0 [some (.ref q), some (.int (nI N))] [] 0 0
  refine z_iload_n C dJ2_get_0 rfl rfl ?_
  refine z_aload_n C dJ2_get_1 rfl rfl ?_
  refine z_get eK12 0 2 C dJ2_get_2 rfl rfl q124 (eSame1 rfl) (by decide) rfl ?_
  refine z_callS (As := [.int (nI N), .int (nI xs.length)]) (rest := []) (Δ := [eO q 12 [.int m, .ref a, .int (nI xs.length)], eQA E a 10 (fun j => xs[j]?), rs]) [] [0, 1, 2] 2 (m_Obj_checkIndex hl E N xs.length (by omega) hN) C dJ2_get_5 rfl rfl rfl q508 q509 q69 q510 (by decide +kernel) rfl rfl rfl rfl ⟨Nat.le_of_ble_eq_true rfl, Nat.le_of_ble_eq_true rfl⟩ (Nat.le_trans eS0 (Nat.le_of_ble_eq_true rfl)) ⟨Nat.le_of_ble_eq_true rfl, Nat.le_of_ble_eq_true rfl⟩ (fun v_ Γ_ hp_ => ?_)
  obtain ⟨rfl, rfl⟩ := hp_
  show eZ x E _ [eO q 12 [.int m, .ref a, .int (nI xs.length)], eQA E a 10 (fun j => xs[j]?), rs] 8 [some (.ref q), some (.int (nI N))] [.int (nI N)] 0 0
  refine z_pop C dJ2_get_8 rfl ?_
  refine z_aload_n C dJ2_get_9 rfl rfl ?_
  refine z_iload_n C dJ2_get_10 rfl rfl ?_
  refine z_join 2 (b := eAL E q a m xs) rfl rfl ?_
  show eZ x E _ [eAL E q a m xs, rs] 11 [some (.ref q), some (.int (nI N))] [.int (nI N), .ref q] 0 0
  refine z_callV (r := (RJ2, TJ2, 3)) (As := [.int (nI N)]) (rest := []) (Δ := [rs]) [0] [1] 1 (m_AL_elementData hl E q a m xs hx N i h) C dJ2_get_11 rfl rfl (eIn (i := 0) rfl eAL_mem) rfl rfl q514 q515 q516 q53 q517 (by decide +kernel) rfl rfl rfl rfl ⟨Nat.le_of_ble_eq_true rfl, Nat.le_of_ble_eq_true rfl⟩ (Nat.le_trans eS0 (Nat.le_of_ble_eq_true rfl)) ⟨Nat.le_of_ble_eq_true rfl, Nat.le_of_ble_eq_true rfl⟩ (fun v_ Γ_ hp_ => ?_)
  obtain ⟨rfl, rfl⟩ := hp_
  show eZ x E _ [eAL E q a m xs, rs] 14 [some (.ref q), some (.int (nI N))] [.ref i] 0 0
  exact z_aret (Γ := [eAL E q a m xs]) C dJ2_get_14 rfl (Or.inl ⟨_, rfl⟩) (Or.inr ⟨_, rfl⟩) (Nat.le_of_ble_eq_true rfl) (Nat.le_of_ble_eq_true rfl) ⟨rfl, rfl⟩

set_option maxHeartbeats 4000000 in
theorem m_AItr_init {l : Launch} (hl : l.stackTraces = false) (E : eEn) (it : Nat) (q a : Nat) (m : Int32) (xs : List Nat) (hx : xs.length ≤ 10) : eMet l E yJ13_init (ws_ yJ13_init cJ13_init 2 none) ({ frames := 1, cells := 0, slots := 0, locals := 12 }) [.ref it, .ref q] [eO it 16 [.int 0, .int 0, .int 0, .null], eAL E q a m xs] (fun v Γ => v = none ∧ Γ = [eO it 16 [.int 0, .int (-1), .int m, .ref q], eAL E q a m xs]) := by
  refine eStart (cc := cJ13_init) (nL := 2) (L := [some (.ref it), some (.ref q)]) hl (by decide) rfl (List.forall_mem_cons.mpr ⟨rfl, (List.forall_mem_cons.mpr ⟨rfl, (fun _ h => absurd h List.not_mem_nil)⟩)⟩) (Nat.le_of_ble_eq_true rfl) ?_
  intro x rs C
  show eZ x E (eQ x E (fun v Γ => v = none ∧ Γ = [eO it 16 [.int 0, .int (-1), .int m, .ref q], eAL E q a m xs]) rs) [eO it 16 [.int 0, .int 0, .int 0, .null], eAL E q a m xs, rs] 0 [some (.ref it), some (.ref q)] [] 0 0
  refine z_cut 1 (bs := [eO q 12 [.int m, .ref a, .int (nI xs.length)], eQA E a 10 (fun j => xs[j]?)]) rfl eAL_cut rfl ?_
  show eZ x E _ [eO it 16 [.int 0, .int 0, .int 0, .null], eO q 12 [.int m, .ref a, .int (nI xs.length)], eQA E a 10 (fun j => xs[j]?), rs] 0 [some (.ref it), some (.ref q)] [] 0 0
  refine z_aload_n C dJ13_init_0 rfl rfl ?_
  refine z_aload_n C dJ13_init_1 rfl rfl ?_
  refine z_putF eK16 0 3 (Γ2 := [eO it 16 [.int 0, .int 0, .int 0, .ref q], eO q 12 [.int m, .ref a, .int (nI xs.length)], eQA E a 10 (fun j => xs[j]?), rs]) C dJ13_init_2 rfl rfl q444 (eSame1 rfl) (by decide) rfl rfl rfl rfl rfl rfl (Nat.le_of_ble_eq_true rfl) rfl ?_
  refine z_aload_n C dJ13_init_5 rfl rfl ?_
  refine z_objInit C dJ13_init_6 rfl rfl q438 q99 q100 (Nat.le_of_ble_eq_true rfl) (Nat.le_of_ble_eq_true rfl) ?_
  refine z_aload_n C dJ13_init_9 rfl rfl ?_
  refine z_iconst (v := (-1)) C dJ13_init_10 (by decide) ?_
  refine z_put eK16 0 1 (Γ2 := [eO it 16 [.int 0, .int (-1), .int 0, .ref q], eO q 12 [.int m, .ref a, .int (nI xs.length)], eQA E a 10 (fun j => xs[j]?), rs]) C dJ13_init_11 rfl rfl q442 (eSame1 rfl) (by decide) rfl rfl rfl rfl (Nat.le_of_ble_eq_true rfl) rfl ?_
  refine z_aload_n C dJ13_init_14 rfl rfl ?_
  refine z_aload_n C dJ13_init_15 rfl rfl ?_
  refine z_get eK16 0 3 C dJ13_init_16 rfl rfl q444 (eSame1 rfl) (by decide) rfl ?_
  refine z_get eK12 1 0 C dJ13_init_19 rfl rfl q128 (eSame2 C q129) (by decide) rfl ?_
  refine z_put eK16 0 2 (Γ2 := [eO it 16 [.int 0, .int (-1), .int m, .ref q], eO q 12 [.int m, .ref a, .int (nI xs.length)], eQA E a 10 (fun j => xs[j]?), rs]) C dJ13_init_22 rfl rfl q443 (eSame1 rfl) (by decide) rfl rfl rfl rfl (Nat.le_of_ble_eq_true rfl) rfl ?_
  refine z_pick (Γ' := [eO q 12 [.int m, .ref a, .int (nI xs.length)], eQA E a 10 (fun j => xs[j]?), eO it 16 [.int 0, .int (-1), .int m, .ref q], rs]) [1, 2, 0, 3] rfl rfl ?_
  refine z_join 2 (b := eAL E q a m xs) rfl rfl ?_
  show eZ x E _ [eAL E q a m xs, eO it 16 [.int 0, .int (-1), .int m, .ref q], rs] 25 [some (.ref it), some (.ref q)] [] 0 0
  refine z_pick (Γ' := [eO it 16 [.int 0, .int (-1), .int m, .ref q], eAL E q a m xs, rs]) [1, 0, 2] rfl rfl ?_
  exact z_vret (Γ := [eO it 16 [.int 0, .int (-1), .int m, .ref q], eAL E q a m xs]) C dJ13_init_25 rfl (Nat.le_of_ble_eq_true rfl) (Nat.le_of_ble_eq_true rfl) ⟨rfl, rfl⟩

set_option maxHeartbeats 4000000 in
theorem m_AL_iterator {l : Launch} (hl : l.stackTraces = false) (E : eEn) (q a : Nat) (m : Int32) (xs : List Nat) (hx : xs.length ≤ 10) : eMet l E yJ2_iterator (ws_ yJ2_iterator cJ2_iterator 1 (some (.object "java/util/Iterator"))) ({ frames := 2, cells := 1, slots := 4, locals := 33 }) [.ref q] [eAL E q a m xs] (fun v Γ => ∃ it, v = some (.ref it) ∧ Γ = [eO it 16 [.int 0, .int (-1), .int m, .ref q], eAL E q a m xs]) := by
  refine eStart (cc := cJ2_iterator) (nL := 1) (L := [some (.ref q)]) hl (by decide) rfl (List.forall_mem_cons.mpr ⟨rfl, (fun _ h => absurd h List.not_mem_nil)⟩) (Nat.le_of_ble_eq_true rfl) ?_
  intro x rs C
  show eZ x E (eQ x E (fun v Γ => ∃ it, v = some (.ref it) ∧ Γ = [eO it 16 [.int 0, .int (-1), .int m, .ref q], eAL E q a m xs]) rs) [eAL E q a m xs, rs] 0 [some (.ref q)] [] 0 0
  refine z_new (fs := [.int 0, .int 0, .int 0, .null]) eK16 C dJ2_iterator_0 rfl q433 q434 q68 rfl (Nat.le_of_ble_eq_true rfl) (Nat.le_of_ble_eq_true rfl) (fun o1 => ?_)
  show eZ x E _ [eAL E q a m xs, rs, eO o1 16 [.int 0, .int 0, .int 0, .null]] 3 [some (.ref q)] [.ref o1] 1 4
  refine z_dup C dJ2_iterator_3 rfl ?_
  refine z_aload_n C dJ2_iterator_4 rfl rfl ?_
  refine z_callI (As := [.ref q]) (rest := [.ref o1]) (Δ := [rs]) [2, 0] [1] 1 (m_AItr_init hl E o1 q a m xs hx) C dJ2_iterator_5 rfl rfl rfl q435 q436 q68 q437 rfl (by decide +kernel) rfl rfl rfl rfl ⟨Nat.le_of_ble_eq_true rfl, Nat.le_of_ble_eq_true rfl⟩ (Nat.le_trans (eSm rfl eS0) (Nat.le_of_ble_eq_true rfl)) ⟨Nat.le_of_ble_eq_true rfl, Nat.le_of_ble_eq_true rfl⟩ (fun v_ Γ_ hp_ => ?_)
  obtain ⟨rfl, rfl⟩ := hp_
  show eZ x E _ [eO o1 16 [.int 0, .int (-1), .int m, .ref q], eAL E q a m xs, rs] 8 [some (.ref q)] [.ref o1] 1 4
  exact z_aret (Γ := [eO o1 16 [.int 0, .int (-1), .int m, .ref q], eAL E q a m xs]) C dJ2_iterator_8 rfl (Or.inl ⟨_, rfl⟩) (Or.inr ⟨_, rfl⟩) (Nat.le_of_ble_eq_true rfl) (Nat.le_of_ble_eq_true rfl) ⟨o1, rfl, rfl⟩

set_option maxHeartbeats 4000000 in
theorem m_AItr_hasNext {l : Launch} (hl : l.stackTraces = false) (E : eEn) (it q a : Nat) (m lr : Int32) (xs : List Nat) (hx : xs.length ≤ 10) (c : Nat) (hc : c ≤ xs.length) : eMet l E yJ13_hasNext (ws_ yJ13_hasNext cJ13_hasNext 1 (some .boolean)) ({ frames := 0, cells := 0, slots := 0, locals := 0 }) [.ref it] [eO it 16 [.int (nI c), .int lr, .int m, .ref q], eAL E q a m xs] (fun v Γ => v = some (.int (eB (decide (c < xs.length)))) ∧ Γ = [eO it 16 [.int (nI c), .int lr, .int m, .ref q], eAL E q a m xs]) := by
  refine eStart (cc := cJ13_hasNext) (nL := 1) (L := [some (.ref it)]) hl (by decide) rfl (List.forall_mem_cons.mpr ⟨rfl, (fun _ h => absurd h List.not_mem_nil)⟩) (Nat.le_of_ble_eq_true rfl) ?_
  intro x rs C
  show eZ x E (eQ x E (fun v Γ => v = some (.int (eB (decide (c < xs.length)))) ∧ Γ = [eO it 16 [.int (nI c), .int lr, .int m, .ref q], eAL E q a m xs]) rs) [eO it 16 [.int (nI c), .int lr, .int m, .ref q], eAL E q a m xs, rs] 0 [some (.ref it)] [] 0 0
  refine z_cut 1 (bs := [eO q 12 [.int m, .ref a, .int (nI xs.length)], eQA E a 10 (fun j => xs[j]?)]) rfl eAL_cut rfl ?_
  show eZ x E _ [eO it 16 [.int (nI c), .int lr, .int m, .ref q], eO q 12 [.int m, .ref a, .int (nI xs.length)], eQA E a 10 (fun j => xs[j]?), rs] 0 [some (.ref it)] [] 0 0
  refine z_aload_n C dJ13_hasNext_0 rfl rfl ?_
  refine z_get eK16 0 0 C dJ13_hasNext_1 rfl rfl q441 (eSame1 rfl) (by decide) rfl ?_
  refine z_aload_n C dJ13_hasNext_4 rfl rfl ?_
  refine z_get eK16 0 3 C dJ13_hasNext_5 rfl rfl q444 (eSame1 rfl) (by decide) rfl ?_
  refine z_getN eK12 1 2 C dJ13_hasNext_8 rfl rfl q123 (eSame1 rfl) (by decide) rfl ?_
  refine z_icmp_eq 18 C dJ13_hasNext_11 (by decide) (fun h1 => ?_) (fun h1 => ?_)
  · refine z_iconst (v := 0) C dJ13_hasNext_18 (by decide) ?_
    refine z_pick (Γ' := [eO q 12 [.int m, .ref a, .int (nI xs.length)], eQA E a 10 (fun j => xs[j]?), eO it 16 [.int (nI c), .int lr, .int m, .ref q], rs]) [1, 2, 0, 3] rfl rfl ?_
    refine z_join 2 (b := eAL E q a m xs) rfl rfl ?_
    show eZ x E _ [eAL E q a m xs, eO it 16 [.int (nI c), .int lr, .int m, .ref q], rs] 19 [some (.ref it)] [.int 0] 0 0
    refine z_pick (Γ' := [eO it 16 [.int (nI c), .int lr, .int m, .ref q], eAL E q a m xs, rs]) [1, 0, 2] rfl rfl ?_
    exact z_ret (Γ := [eO it 16 [.int (nI c), .int lr, .int m, .ref q], eAL E q a m xs]) C dJ13_hasNext_19 rfl (by decide) (Nat.le_of_ble_eq_true rfl) (Nat.le_of_ble_eq_true rfl) ⟨by rw [show decide (c < xs.length) = false from decide_eq_false (fun h => absurd ((nI_eq (by omega) (by omega)).mp h1) (by omega))]; rfl, rfl⟩
  · refine z_iconst (v := 1) C dJ13_hasNext_14 (by decide) ?_
    refine z_goto 19 C dJ13_hasNext_15 (by decide) ?_
    refine z_pick (Γ' := [eO q 12 [.int m, .ref a, .int (nI xs.length)], eQA E a 10 (fun j => xs[j]?), eO it 16 [.int (nI c), .int lr, .int m, .ref q], rs]) [1, 2, 0, 3] rfl rfl ?_
    refine z_join 2 (b := eAL E q a m xs) rfl rfl ?_
    show eZ x E _ [eAL E q a m xs, eO it 16 [.int (nI c), .int lr, .int m, .ref q], rs] 19 [some (.ref it)] [.int 1] 0 0
    refine z_pick (Γ' := [eO it 16 [.int (nI c), .int lr, .int m, .ref q], eAL E q a m xs, rs]) [1, 0, 2] rfl rfl ?_
    exact z_ret (Γ := [eO it 16 [.int (nI c), .int lr, .int m, .ref q], eAL E q a m xs]) C dJ13_hasNext_19 rfl (by decide) (Nat.le_of_ble_eq_true rfl) (Nat.le_of_ble_eq_true rfl) ⟨by rw [show decide (c < xs.length) = true from decide_eq_true (Nat.lt_of_le_of_ne hc (fun h => h1 (by rw [h])))]; rfl, rfl⟩

set_option maxHeartbeats 4000000 in
theorem m_AItr_check {l : Launch} (hl : l.stackTraces = false) (E : eEn) (it : Nat) (cu lr : Int32) (q a : Nat) (m : Int32) (xs : List Nat) (hx : xs.length ≤ 10) : eMet l E yJ13_checkForComodification (ws_ yJ13_checkForComodification cJ13_checkForComodification 1 none) ({ frames := 0, cells := 0, slots := 0, locals := 0 }) [.ref it] [eO it 16 [.int cu, .int lr, .int m, .ref q], eAL E q a m xs] (fun v Γ => v = none ∧ Γ = [eO it 16 [.int cu, .int lr, .int m, .ref q], eAL E q a m xs]) := by
  refine eStart (cc := cJ13_checkForComodification) (nL := 1) (L := [some (.ref it)]) hl (by decide) rfl (List.forall_mem_cons.mpr ⟨rfl, (fun _ h => absurd h List.not_mem_nil)⟩) (Nat.le_of_ble_eq_true rfl) ?_
  intro x rs C
  show eZ x E (eQ x E (fun v Γ => v = none ∧ Γ = [eO it 16 [.int cu, .int lr, .int m, .ref q], eAL E q a m xs]) rs) [eO it 16 [.int cu, .int lr, .int m, .ref q], eAL E q a m xs, rs] 0 [some (.ref it)] [] 0 0
  refine z_cut 1 (bs := [eO q 12 [.int m, .ref a, .int (nI xs.length)], eQA E a 10 (fun j => xs[j]?)]) rfl eAL_cut rfl ?_
  show eZ x E _ [eO it 16 [.int cu, .int lr, .int m, .ref q], eO q 12 [.int m, .ref a, .int (nI xs.length)], eQA E a 10 (fun j => xs[j]?), rs] 0 [some (.ref it)] [] 0 0
  refine z_aload_n C dJ13_checkForComodification_0 rfl rfl ?_
  refine z_get eK16 0 3 C dJ13_checkForComodification_1 rfl rfl q444 (eSame1 rfl) (by decide) rfl ?_
  refine z_get eK12 1 0 C dJ13_checkForComodification_4 rfl rfl q128 (eSame2 C q129) (by decide) rfl ?_
  refine z_aload_n C dJ13_checkForComodification_7 rfl rfl ?_
  refine z_get eK16 0 2 C dJ13_checkForComodification_8 rfl rfl q443 (eSame1 rfl) (by decide) rfl ?_
  refine z_icmp_eq 22 C dJ13_checkForComodification_11 (by decide) (fun h1 => ?_) (fun h1 => ?_)
  · refine z_pick (Γ' := [eO q 12 [.int m, .ref a, .int (nI xs.length)], eQA E a 10 (fun j => xs[j]?), eO it 16 [.int cu, .int lr, .int m, .ref q], rs]) [1, 2, 0, 3] rfl rfl ?_
    refine z_join 2 (b := eAL E q a m xs) rfl rfl ?_
    show eZ x E _ [eAL E q a m xs, eO it 16 [.int cu, .int lr, .int m, .ref q], rs] 22 [some (.ref it)] [] 0 0
    refine z_pick (Γ' := [eO it 16 [.int cu, .int lr, .int m, .ref q], eAL E q a m xs, rs]) [1, 0, 2] rfl rfl ?_
    exact z_vret (Γ := [eO it 16 [.int cu, .int lr, .int m, .ref q], eAL E q a m xs]) C dJ13_checkForComodification_22 rfl (Nat.le_of_ble_eq_true rfl) (Nat.le_of_ble_eq_true rfl) ⟨rfl, rfl⟩
  · exact absurd rfl h1

set_option maxHeartbeats 4000000 in
theorem m_AItr_next {l : Launch} (hl : l.stackTraces = false) (E : eEn) (it q a : Nat) (m lr : Int32) (xs : List Nat) (hx : xs.length ≤ 10) (c i : Nat) (h : xs[c]? = some i) : eMet l E yJ13_next (ws_ yJ13_next cJ13_next 3 (some (.object "java/lang/Object"))) ({ frames := 1, cells := 0, slots := 0, locals := 20 }) [.ref it] [eO it 16 [.int (nI c), .int lr, .int m, .ref q], eAL E q a m xs] (fun v Γ => v = some (.ref i) ∧ Γ = [eO it 16 [.int (nI (c + 1)), .int (nI c), .int m, .ref q], eAL E q a m xs]) := by
  refine eStart (cc := cJ13_next) (nL := 3) (L := [some (.ref it), none, none]) hl (by decide) rfl (List.forall_mem_cons.mpr ⟨rfl, (fun _ h => absurd h List.not_mem_nil)⟩) (Nat.le_of_ble_eq_true rfl) ?_
  intro x rs C
  show eZ x E (eQ x E (fun v Γ => v = some (.ref i) ∧ Γ = [eO it 16 [.int (nI (c + 1)), .int (nI c), .int m, .ref q], eAL E q a m xs]) rs) [eO it 16 [.int (nI c), .int lr, .int m, .ref q], eAL E q a m xs, rs] 0 [some (.ref it), none, none] [] 0 0
  have hN : c < xs.length := (List.getElem?_eq_some_iff.mp h).1
  refine z_aload_n C dJ13_next_0 rfl rfl ?_
  refine z_callV (r := (RJ13, TJ13, 4)) (As := []) (rest := []) (Δ := [rs]) [0, 1] [2] 0 (m_AItr_check hl E it (nI c) lr q a m xs hx) C dJ13_next_1 rfl rfl (eIn (i := 0) rfl List.mem_cons_self) rfl rfl q800 q801 q802 q68 q805 (by decide +kernel) rfl rfl rfl rfl ⟨Nat.le_of_ble_eq_true rfl, Nat.le_of_ble_eq_true rfl⟩ (Nat.le_trans eS0 (Nat.le_of_ble_eq_true rfl)) ⟨Nat.le_of_ble_eq_true rfl, Nat.le_of_ble_eq_true rfl⟩ (fun v_ Γ_ hp_ => ?_)
  obtain ⟨rfl, rfl⟩ := hp_
  show eZ x E _ [eO it 16 [.int (nI c), .int lr, .int m, .ref q], eAL E q a m xs, rs] 4 [some (.ref it), none, none] [] 0 0
  refine z_cut 1 (bs := [eO q 12 [.int m, .ref a, .int (nI xs.length)], eQA E a 10 (fun j => xs[j]?)]) rfl eAL_cut rfl ?_
  show eZ x E _ [eO it 16 [.int (nI c), .int lr, .int m, .ref q], eO q 12 [.int m, .ref a, .int (nI xs.length)], eQA E a 10 (fun j => xs[j]?), rs] 4 [some (.ref it), none, none] [] 0 0
  refine z_aload_n C dJ13_next_4 rfl rfl ?_
  refine z_get eK16 0 0 C dJ13_next_5 rfl rfl q441 (eSame1 rfl) (by decide) rfl ?_
  refine z_istore_n (L2 := [some (.ref it), some (.int (nI c)), none]) C dJ13_next_8 rfl (Nat.le_of_ble_eq_true rfl) rfl ?_
  refine z_iload_n C dJ13_next_9 rfl rfl ?_
  refine z_aload_n C dJ13_next_10 rfl rfl ?_
  refine z_get eK16 0 3 C dJ13_next_11 rfl rfl q444 (eSame1 rfl) (by decide) rfl ?_
  refine z_getN eK12 1 2 C dJ13_next_14 rfl rfl q123 (eSame1 rfl) (by decide) rfl ?_
  refine z_icmp_lt 28 C dJ13_next_17 (by decide) (fun h1 => ?_) (fun h1 => ?_)
  · refine z_aload_n C dJ13_next_28 rfl rfl ?_
    refine z_get eK16 0 3 C dJ13_next_29 rfl rfl q444 (eSame1 rfl) (by decide) rfl ?_
    refine z_get eK12 1 1 C dJ13_next_32 rfl rfl q122 (eSame1 rfl) (by decide) rfl ?_
    refine z_astore_n (L2 := [some (.ref it), some (.int (nI c)), some (.ref a)]) C dJ13_next_35 rfl (Nat.le_of_ble_eq_true rfl) rfl ?_
    refine z_iload_n C dJ13_next_36 rfl rfl ?_
    refine z_aload_n C dJ13_next_37 rfl rfl ?_
    refine z_alenq (v := 10) 2 C dJ13_next_38 rfl rfl ?_
    refine z_icmp_lt 50 C dJ13_next_39 (by decide) (fun h2 => ?_) (fun h2 => ?_)
    · refine z_aload_n C dJ13_next_50 rfl rfl ?_
      refine z_iload_n C dJ13_next_51 rfl rfl ?_
      refine z_iconst (v := 1) C dJ13_next_52 (by decide) ?_
      refine z_iadd (w := nI (c + 1)) C dJ13_next_53 (nI_1 c) ?_
      refine z_put eK16 0 0 (Γ2 := [eO it 16 [.int (nI (c + 1)), .int lr, .int m, .ref q], eO q 12 [.int m, .ref a, .int (nI xs.length)], eQA E a 10 (fun j => xs[j]?), rs]) C dJ13_next_54 rfl rfl q441 (eSame1 rfl) (by decide) rfl rfl rfl rfl (Nat.le_of_ble_eq_true rfl) rfl ?_
      refine z_aload_n C dJ13_next_57 rfl rfl ?_
      refine z_aload_n C dJ13_next_58 rfl rfl ?_
      refine z_iload_n C dJ13_next_59 rfl rfl ?_
      refine z_dup_x1 C dJ13_next_60 rfl rfl ?_
      refine z_put eK16 0 1 (Γ2 := [eO it 16 [.int (nI (c + 1)), .int (nI c), .int m, .ref q], eO q 12 [.int m, .ref a, .int (nI xs.length)], eQA E a 10 (fun j => xs[j]?), rs]) C dJ13_next_61 rfl rfl q442 (eSame1 rfl) (by decide) rfl rfl rfl rfl (Nat.le_of_ble_eq_true rfl) rfl ?_
      refine z_aald (m := c) (v := .ref i) 2 C dJ13_next_64 rfl rfl (by omega) (by decide) (by show va_rf (xs[c]?) = _; rw [h]; rfl) ?_
      refine z_pick (Γ' := [eO q 12 [.int m, .ref a, .int (nI xs.length)], eQA E a 10 (fun j => xs[j]?), eO it 16 [.int (nI (c + 1)), .int (nI c), .int m, .ref q], rs]) [1, 2, 0, 3] rfl rfl ?_
      refine z_join 2 (b := eAL E q a m xs) rfl rfl ?_
      show eZ x E _ [eAL E q a m xs, eO it 16 [.int (nI (c + 1)), .int (nI c), .int m, .ref q], rs] 65 [some (.ref it), some (.int (nI c)), some (.ref a)] [.ref i] 0 0
      refine z_pick (Γ' := [eO it 16 [.int (nI (c + 1)), .int (nI c), .int m, .ref q], eAL E q a m xs, rs]) [1, 0, 2] rfl rfl ?_
      exact z_aret (Γ := [eO it 16 [.int (nI (c + 1)), .int (nI c), .int m, .ref q], eAL E q a m xs]) C dJ13_next_65 rfl (Or.inl ⟨_, rfl⟩) (Or.inr ⟨_, rfl⟩) (Nat.le_of_ble_eq_true rfl) (Nat.le_of_ble_eq_true rfl) ⟨rfl, rfl⟩
    · exact absurd (nI_lt (b := 10) (by omega) (by decide)) h2
  · exact absurd (nI_lt hN (by omega)) h1
