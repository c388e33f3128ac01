/-! ===== ArrayDeque (17 places) ===== -/
set_option maxRecDepth 100000
def dqF (h : Nat) (xs : List Nat) : Nat → Option Nat := fun j => if j < 17 then xs[(j + 17 - h) % 17]? else none
def dqT (h n : Nat) : Nat := (h + n) % 17
theorem dqT_lt (h n : Nat) : dqT h n < 17 := Nat.mod_lt _ (by decide)
def eAD (E : eEn) (q a h : Nat) (xs : List Nat) : va_W := eO q 17 [.ref a, .int (nI h), .int (nI (dqT h xs.length))] ++ eQA E a 17 (dqF h xs)
theorem eAD_mem {E : eEn} {q a h : Nat} {xs : List Nat} : (q, (.inr (17, [.ref a, .int (nI h), .int (nI (dqT h xs.length))]) : va_E)) ∈ eAD E q a h xs := List.mem_cons_self
theorem eAD_cut {E : eEn} {q a h : Nat} {xs : List Nat} : eAD E q a h xs = [eO q 17 [.ref a, .int (nI h), .int (nI (dqT h xs.length))], eQA E a 17 (dqF h xs)].flatten := rfl
theorem dqF_nil : (fun _ => none) = dqF 0 [] := by
  funext j
  unfold dqF
  split <;> simp
theorem dqF_add {h : Nat} {xs : List Nat} {i : Nat} (hh : h < 17) (hx : xs.length < 17) : va_up (dqF h xs) (dqT h xs.length) (some i) = dqF h (xs ++ [i]) := by
  funext j
  by_cases e : j = dqT h xs.length
  · subst e
    rw [va_up_self]
    have h1 : dqT h xs.length < 17 := Nat.mod_lt _ (by decide)
    have h2 : (dqT h xs.length + 17 - h) % 17 = xs.length := by unfold dqT; omega
    rw [dqF, if_pos h1, h2]
    simp
  · rw [va_up_ne _ _ e]
    unfold dqF
    split
    · rename_i hj
      have h2 : (j + 17 - h) % 17 ≠ xs.length := fun h3 => e (by unfold dqT; omega)
      rcases Nat.lt_or_ge ((j + 17 - h) % 17) xs.length with h3 | h3
      · rw [List.getElem?_append_left h3]
      · rw [List.getElem?_eq_none h3, List.getElem?_eq_none (by simp; omega)]
    · rfl
theorem dqF_hd {h : Nat} {x : Nat} {xs : List Nat} (hh : h < 17) : dqF h (x :: xs) h = some x := by
  rw [dqF, if_pos hh, show (h + 17 - h) % 17 = 0 by omega]; rfl
theorem dqF_pop {h : Nat} {x : Nat} {xs : List Nat} (hh : h < 17) (hx : xs.length < 16) : va_up (dqF h (x :: xs)) h none = dqF (dqT h 1) xs := by
  funext j
  by_cases e : j = h
  · subst e
    rw [va_up_self, dqF, if_pos hh, List.getElem?_eq_none (by unfold dqT; omega)]
  · rw [va_up_ne _ _ e]
    unfold dqF
    split
    · rename_i hj
      have h2 : (j + 17 - h) % 17 = (j + 17 - dqT h 1) % 17 + 1 := by unfold dqT; omega
      rw [h2, List.getElem?_cons_succ]
    · rfl
theorem dqF_lst {h : Nat} {x : Nat} {xs : List Nat} (hh : h < 17) (hx : xs.length < 17) : dqF h (xs ++ [x]) (dqT h xs.length) = some x := by
  rw [dqF, if_pos (dqT_lt _ _), show (dqT h xs.length + 17 - h) % 17 = xs.length by unfold dqT; omega]
  simp
theorem dqF_drop {h : Nat} {x : Nat} {xs : List Nat} (hh : h < 17) (hx : xs.length < 17) : va_up (dqF h (xs ++ [x])) (dqT h xs.length) none = dqF h xs := by
  funext j
  by_cases e : j = dqT h xs.length
  · subst e
    rw [va_up_self, dqF, if_pos (dqT_lt _ _), List.getElem?_eq_none (by unfold dqT; omega)]
  · rw [va_up_ne _ _ e]
    unfold dqF
    split
    · rename_i hj
      have h2 : (j + 17 - h) % 17 ≠ xs.length := fun h3 => e (by unfold dqT; omega)
      rcases Nat.lt_or_ge ((j + 17 - h) % 17) xs.length with h3 | h3
      · rw [List.getElem?_append_left h3]
      · rw [List.getElem?_eq_none h3, List.getElem?_eq_none (by simp; omega)]
    · rfl

set_option maxHeartbeats 4000000 in
theorem m_AD_inc {l : Launch} (hl : l.stackTraces = false) (E : eEn) (i : Nat) (hi : i < 17) : eMet l E yJ8_inc (ws_ yJ8_inc cJ8_inc 2 (some .int)) ({ frames := 0, cells := 0, slots := 0, locals := 0 }) [.int (nI i), .int 17] [] (fun v Γ => v = some (.int (nI (dqT i 1))) ∧ Γ = []) := by
  refine eStart (cc := cJ8_inc) (nL := 2) (L := [some (.int (nI i)), some (.int 17)]) hl (by decide) rfl (List.forall_mem_cons.mpr ⟨rfl, (List.forall_mem_cons.mpr ⟨rfl, (fun _ h => absurd h List.not_mem_nil)⟩)⟩) (Nat.le_of_ble_eq_true rfl) ?_
  intro x rs C
  show eZ x E (eQ x E (fun v Γ => v = some (.int (nI (dqT i 1))) ∧ Γ = []) rs) [rs] 0 [some (.int (nI i)), some (.int 17)] [] 0 0
  generalize hQ_ : eQ x E (fun v Γ => v = some (.int (nI (dqT i 1))) ∧ Γ = []) rs = Q_
  refine z_iinc (v := nI (i + 1)) (L2 := [some (.int (nI (i + 1))), some (.int 17)]) C dJ8_inc_0 rfl (nI_1 i) rfl ?_
  refine z_iload_n C dJ8_inc_3 rfl rfl ?_
  refine z_iload_n C dJ8_inc_4 rfl rfl ?_
  refine z_icmp_lt 10 C dJ8_inc_5 (by decide) (fun h1 => ?_) (fun h1 => ?_)
  · refine z_iload_n C dJ8_inc_10 rfl rfl ?_
    subst hQ_
    exact z_ret (Γ := []) C dJ8_inc_11 rfl rfl (Nat.le_of_ble_eq_true rfl) (Nat.le_of_ble_eq_true rfl) ⟨by rw [dqT, Nat.mod_eq_of_lt ((nI_ltI (a := i + 1) (b := 17) (by omega) (by decide)).mp h1)], rfl⟩
  · refine z_iconst (v := 0) C dJ8_inc_8 (by decide) ?_
    refine z_istore_n (L2 := [some (.int 0), some (.int 17)]) C dJ8_inc_9 rfl (Nat.le_of_ble_eq_true rfl) rfl ?_
    refine z_iload_n C dJ8_inc_10 rfl rfl ?_
    subst hQ_
    exact z_ret (Γ := []) C dJ8_inc_11 rfl rfl (Nat.le_of_ble_eq_true rfl) (Nat.le_of_ble_eq_true rfl) ⟨by rw [show dqT i 1 = 0 from by have h2 : ¬ i + 1 < 17 := fun h => h1 (nI_lt (b := 17) h (by decide)); unfold dqT; omega]; rfl, rfl⟩

set_option maxHeartbeats 4000000 in
theorem m_AD_dec {l : Launch} (hl : l.stackTraces = false) (E : eEn) (i : Nat) (hi : i < 17) : eMet l E yJ8_dec (ws_ yJ8_dec cJ8_dec 2 (some .int)) ({ frames := 0, cells := 0, slots := 0, locals := 0 }) [.int (nI i), .int 17] [] (fun v Γ => v = some (.int (nI (dqT i 16))) ∧ Γ = []) := by
  refine eStart (cc := cJ8_dec) (nL := 2) (L := [some (.int (nI i)), some (.int 17)]) hl (by decide) rfl (List.forall_mem_cons.mpr ⟨rfl, (List.forall_mem_cons.mpr ⟨rfl, (fun _ h => absurd h List.not_mem_nil)⟩)⟩) (Nat.le_of_ble_eq_true rfl) ?_
  intro x rs C
  show eZ x E (eQ x E (fun v Γ => v = some (.int (nI (dqT i 16))) ∧ Γ = []) rs) [rs] 0 [some (.int (nI i)), some (.int 17)] [] 0 0
  generalize hQ_ : eQ x E (fun v Γ => v = some (.int (nI (dqT i 16))) ∧ Γ = []) rs = Q_
  rcases i with _ | i
  · show eZ x E _ [rs] 0 [some (.int (nI 0)), some (.int 17)] [] 0 0
    refine z_iinc (v := (-1)) (L2 := [some (.int (-1)), some (.int 17)]) C dJ8_dec_0 rfl (by decide) rfl ?_
    refine z_iload_n C dJ8_dec_3 rfl rfl ?_
    refine z_if_ge 11 C dJ8_dec_4 (by decide) (fun h1 => ?_) (fun h1 => ?_)
    · exact absurd h1 (by decide)
    · refine z_iload_n C dJ8_dec_7 rfl rfl ?_
      refine z_iconst (v := 1) C dJ8_dec_8 (by decide) ?_
      refine z_isub (w := 17 - 1) C dJ8_dec_9 rfl ?_
      refine z_istore_n (L2 := [some (.int (17 - 1)), some (.int 17)]) C dJ8_dec_10 rfl (Nat.le_of_ble_eq_true rfl) rfl ?_
      refine z_iload_n C dJ8_dec_11 rfl rfl ?_
      subst hQ_
      exact z_ret (Γ := []) C dJ8_dec_12 rfl rfl (Nat.le_of_ble_eq_true rfl) (Nat.le_of_ble_eq_true rfl) ⟨rfl, rfl⟩
  · show eZ x E _ [rs] 0 [some (.int (nI (i + 1))), some (.int 17)] [] 0 0
    refine z_iinc (v := nI i) (L2 := [some (.int (nI i)), some (.int 17)]) C dJ8_dec_0 rfl (pk_m1 i) rfl ?_
    refine z_iload_n C dJ8_dec_3 rfl rfl ?_
    refine z_if_ge 11 C dJ8_dec_4 (by decide) (fun h1 => ?_) (fun h1 => ?_)
    · refine z_iload_n C dJ8_dec_11 rfl rfl ?_
      subst hQ_
      exact z_ret (Γ := []) C dJ8_dec_12 rfl rfl (Nat.le_of_ble_eq_true rfl) (Nat.le_of_ble_eq_true rfl) ⟨by rw [show dqT (i + 1) 16 = i from by unfold dqT; omega], rfl⟩
    · exact absurd (nI_pos' (by omega)) h1

theorem eSubN (h n : Nat) : nI (h + n) - nI h = nI n := by rw [← nI_add, Int32.add_comm, Int32.add_sub_cancel]
theorem eSubM (h n : Nat) (hc : 17 ≤ h + n) : nI (h + n - 17) - nI h + 17 = nI n := by
  have h1 : nI (h + n - 17) + 17 = nI (h + n) := by rw [show (17 : Int32) = nI 17 from rfl, nI_add, Nat.sub_add_cancel hc]
  rw [Int32.sub_eq_add_neg, Int32.add_assoc, Int32.add_comm (-nI h), ← Int32.add_assoc, h1, ← Int32.sub_eq_add_neg, eSubN]
theorem eSubL : ∀ h : Nat, h < 17 → ∀ n : Nat, n < 17 → 17 ≤ h + n → ¬ (0 : Int32) ≤ nI (h + n - 17) - nI h := by decide +kernel

set_option maxHeartbeats 4000000 in
theorem m_AD_sub {l : Launch} (hl : l.stackTraces = false) (E : eEn) (h n : Nat) (hh : h < 17) (hn : n < 17) : eMet l E yJ8_sub (ws_ yJ8_sub cJ8_sub 3 (some .int)) ({ frames := 0, cells := 0, slots := 0, locals := 0 }) [.int (nI (dqT h n)), .int (nI h), .int 17] [] (fun v Γ => v = some (.int (nI n)) ∧ Γ = []) := by
  refine eStart (cc := cJ8_sub) (nL := 3) (L := [some (.int (nI (dqT h n))), some (.int (nI h)), some (.int 17)]) hl (by decide) rfl (List.forall_mem_cons.mpr ⟨rfl, (List.forall_mem_cons.mpr ⟨rfl, (List.forall_mem_cons.mpr ⟨rfl, (fun _ h => absurd h List.not_mem_nil)⟩)⟩)⟩) (Nat.le_of_ble_eq_true rfl) ?_
  intro x rs C
  show eZ x E (eQ x E (fun v Γ => v = some (.int (nI n)) ∧ Γ = []) rs) [rs] 0 [some (.int (nI (dqT h n))), some (.int (nI h)), some (.int 17)] [] 0 0
  generalize hQ_ : eQ x E (fun v Γ => v = some (.int (nI n)) ∧ Γ = []) rs = Q_
  rcases Nat.lt_or_ge (h + n) 17 with hc | hc
  · have ht : dqT h n = h + n := by unfold dqT; omega
    rw [ht]
    show eZ x E _ [rs] 0 [some (.int (nI (h + n))), some (.int (nI h)), some (.int 17)] [] 0 0
    refine z_iload_n C dJ8_sub_0 rfl rfl ?_
    refine z_iload_n C dJ8_sub_1 rfl rfl ?_
    refine z_isub (w := nI n) C dJ8_sub_2 (eSubN h n) ?_
    refine z_dup C dJ8_sub_3 rfl ?_
    refine z_istore_n (L2 := [some (.int (nI n)), some (.int (nI h)), some (.int 17)]) C dJ8_sub_4 rfl (Nat.le_of_ble_eq_true rfl) rfl ?_
    refine z_if_ge 12 C dJ8_sub_5 (by decide) (fun h1 => ?_) (fun h1 => ?_)
    · refine z_iload_n C dJ8_sub_12 rfl rfl ?_
      subst hQ_
      exact z_ret (Γ := []) C dJ8_sub_13 rfl rfl (Nat.le_of_ble_eq_true rfl) (Nat.le_of_ble_eq_true rfl) ⟨rfl, rfl⟩
    · exact absurd (nI_pos' (by omega)) h1
  · have ht : dqT h n = h + n - 17 := by unfold dqT; omega
    rw [ht]
    show eZ x E _ [rs] 0 [some (.int (nI (h + n - 17))), some (.int (nI h)), some (.int 17)] [] 0 0
    refine z_iload_n C dJ8_sub_0 rfl rfl ?_
    refine z_iload_n C dJ8_sub_1 rfl rfl ?_
    refine z_isub (w := nI (h + n - 17) - nI h) C dJ8_sub_2 rfl ?_
    refine z_dup C dJ8_sub_3 rfl ?_
    refine z_istore_n (L2 := [some (.int (nI (h + n - 17) - nI h)), some (.int (nI h)), some (.int 17)]) C dJ8_sub_4 rfl (Nat.le_of_ble_eq_true rfl) rfl ?_
    refine z_if_ge 12 C dJ8_sub_5 (by decide) (fun h1 => ?_) (fun h1 => ?_)
    · exact absurd h1 (eSubL h hh n hn hc)
    · refine z_iload_n C dJ8_sub_8 rfl rfl ?_
      refine z_iload_n C dJ8_sub_9 rfl rfl ?_
      refine z_iadd (w := (nI (h + n - 17) - nI h) + 17) C dJ8_sub_10 rfl ?_
      refine z_istore_n (L2 := [some (.int ((nI (h + n - 17) - nI h) + 17)), some (.int (nI h)), some (.int 17)]) C dJ8_sub_11 rfl (Nat.le_of_ble_eq_true rfl) rfl ?_
      refine z_iload_n C dJ8_sub_12 rfl rfl ?_
      subst hQ_
      exact z_ret (Γ := []) C dJ8_sub_13 rfl rfl (Nat.le_of_ble_eq_true rfl) (Nat.le_of_ble_eq_true rfl) ⟨by rw [eSubM h n hc], rfl⟩

set_option maxHeartbeats 4000000 in
theorem m_AD_elementAt {l : Launch} (hl : l.stackTraces = false) (E : eEn) (a i z : Nat) (f : Nat → Option Nat) (hi : i < 17) (hx : f i = some z) : eMet l E yJ8_elementAt (ws_ yJ8_elementAt cJ8_elementAt 2 (some (.object "java/lang/Object"))) ({ frames := 0, cells := 0, slots := 0, locals := 0 }) [.ref a, .int (nI i)] [eQA E a 17 f] (fun v Γ => v = some (.ref z) ∧ Γ = [eQA E a 17 f]) := by
  refine eStart (cc := cJ8_elementAt) (nL := 2) (L := [some (.ref a), some (.int (nI i))]) hl (by decide) rfl (List.forall_mem_cons.mpr ⟨rfl, (List.forall_mem_cons.mpr ⟨rfl, (fun _ h => absurd h List.not_mem_nil)⟩)⟩) (Nat.le_of_ble_eq_true rfl) ?_
  intro x rs C
  show eZ x E (eQ x E (fun v Γ => v = some (.ref z) ∧ Γ = [eQA E a 17 f]) rs) [eQA E a 17 f, rs] 0 [some (.ref a), some (.int (nI i))] [] 0 0
  generalize hQ_ : eQ x E (fun v Γ => v = some (.ref z) ∧ Γ = [eQA E a 17 f]) rs = Q_
  refine z_aload_n C dJ8_elementAt_0 rfl rfl ?_
  refine z_iload_n C dJ8_elementAt_1 rfl rfl ?_
  refine z_aald (m := i) (v := .ref z) 0 C dJ8_elementAt_2 rfl rfl hi (by decide) (by rw [hx]; rfl) ?_
  subst hQ_
  exact z_aret (Γ := [eQA E a 17 f]) C dJ8_elementAt_3 rfl (Or.inl ⟨_, rfl⟩) (Or.inr ⟨_, rfl⟩) (Nat.le_of_ble_eq_true rfl) (Nat.le_of_ble_eq_true rfl) ⟨rfl, rfl⟩

set_option maxHeartbeats 4000000 in
theorem m_AbsCol_init_AD {l : Launch} (hl : l.stackTraces = false) (E : eEn) (q : Nat) : eMet l E yJ0_init (ws_ yJ0_init cJ0_init 1 none) ({ frames := 1, cells := 0, slots := 0, locals := 12 }) [.ref q] [eO q 17 [.null, .int 0, .int 0]] (fun v Γ => v = none ∧ Γ = [eO q 17 [.null, .int 0, .int 0]]) := by
  refine eStart (cc := cJ0_init) (nL := 1) (L := [some (.ref q)]) hl (by decide) rfl (List.forall_mem_cons.mpr ⟨rfl, (fun _ h => absurd h List.not_mem_nil)⟩) (Nat.le_of_ble_eq_true rfl) ?_
  intro x rs C
  show eZ x E (eQ x E (fun v Γ => v = none ∧ Γ = [eO q 17 [.null, .int 0, .int 0]]) rs) [eO q 17 [.null, .int 0, .int 0], rs] 0 [some (.ref q)] [] 0 0
  generalize hQ_ : eQ x E (fun v Γ => v = none ∧ Γ = [eO q 17 [.null, .int 0, .int 0]]) rs = Q_
  refine z_aload_n C dJ0_init_0 rfl rfl ?_
  refine z_objInit C dJ0_init_1 rfl rfl q118 q99 q100 (Nat.le_of_ble_eq_true rfl) (Nat.le_of_ble_eq_true rfl) ?_
  subst hQ_
  exact z_vret (Γ := [eO q 17 [.null, .int 0, .int 0]]) C dJ0_init_4 rfl (Nat.le_of_ble_eq_true rfl) (Nat.le_of_ble_eq_true rfl) ⟨rfl, rfl⟩

set_option maxHeartbeats 4000000 in
theorem m_AD_init {l : Launch} (hl : l.stackTraces = false) (E : eEn) (q : Nat) : eMet l E yJ8_init (ws_ yJ8_init cJ8_init 1 none) ({ frames := 2, cells := 1, slots := 17, locals := 32 }) [.ref q] [eO q 17 [.null, .int 0, .int 0]] (fun v Γ => v = none ∧ ∃ a, Γ = [eAD E q a 0 []]) := by
  refine eStart (cc := cJ8_init) (nL := 1) (L := [some (.ref q)]) hl (by decide) rfl (List.forall_mem_cons.mpr ⟨rfl, (fun _ h => absurd h List.not_mem_nil)⟩) (Nat.le_of_ble_eq_true rfl) ?_
  intro x rs C
  show eZ x E (eQ x E (fun v Γ => v = none ∧ ∃ a, Γ = [eAD E q a 0 []]) rs) [eO q 17 [.null, .int 0, .int 0], rs] 0 [some (.ref q)] [] 0 0
  generalize hQ_ : eQ x E (fun v Γ => v = none ∧ ∃ a, Γ = [eAD E q a 0 []]) rs = Q_
  refine z_aload_n C dJ8_init_0 rfl rfl ?_
  refine z_callI (As := []) (rest := []) (Δ := [rs]) [0] [1] 0 (m_AbsCol_init_AD hl E q) C dJ8_init_1 rfl rfl rfl q353 q116 q51 q117 rfl (by decide +kernel) rfl (ePm 2 rfl (by decide +kernel)) rfl rfl ⟨Nat.le_of_ble_eq_true rfl, Nat.le_of_ble_eq_true rfl⟩ (Nat.le_trans eS0 (Nat.le_of_ble_eq_true rfl)) ⟨Nat.le_of_ble_eq_true rfl, Nat.le_of_ble_eq_true rfl⟩ (fun v_ Γ_ hp_ => ?_)
  obtain ⟨rfl, rfl⟩ := hp_
  show eZ x E _ [eO q 17 [.null, .int 0, .int 0], rs] 4 [some (.ref q)] [] 0 0
  refine z_aload_n C dJ8_init_4 rfl rfl ?_
  refine z_bipush (v := 17) C dJ8_init_5 (by decide) ?_
  refine z_newQ (m := 17) C dJ8_init_7 rfl q354 rfl (by decide) (Nat.le_of_ble_eq_true rfl) (Nat.le_of_ble_eq_true rfl) (fun a1 => ?_)
  show eZ x E _ [eO q 17 [.null, .int 0, .int 0], rs, eQA E a1 17 (fun _ => none)] 10 [some (.ref q)] [.ref a1, .ref q] 1 17
  refine z_put eK17 0 0 (Γ2 := [eO q 17 [.ref a1, .int 0, .int 0], rs, eQA E a1 17 (fun _ => none)]) C dJ8_init_10 rfl rfl q355 (eSame1 rfl) (by decide) rfl rfl rfl rfl (Nat.le_of_ble_eq_true rfl) rfl ?_
  refine z_pick (Γ' := [eO q 17 [.ref a1, .int 0, .int 0], eQA E a1 17 (fun _ => none), rs]) [0, 2, 1] (ePm 3 rfl (by decide +kernel)) rfl ?_
  refine z_join 2 (b := eAD E q a1 0 []) (by rw [eAD_cut, ← dqF_nil]; rfl) rfl ?_
  show eZ x E _ [eAD E q a1 0 [], rs] 13 [some (.ref q)] [] 1 17
  subst hQ_
  exact z_vret (Γ := [eAD E q a1 0 []]) C dJ8_init_13 rfl (Nat.le_of_ble_eq_true rfl) (Nat.le_of_ble_eq_true rfl) ⟨rfl, a1, rfl⟩

set_option maxHeartbeats 4000000 in
theorem m_AD_addLast {l : Launch} (hl : l.stackTraces = false) (E : eEn) (q a h : Nat) (xs : List Nat) (hh : h < 17) (hx : xs.length < 8) (i ci : Nat) (fs : List Value) (r : vw_C) (b : va_W) (hb : (i, (.inr (ci, fs) : va_E)) ∈ b) (hc : eCl[ci]? = some r) (hq : Cond.castable r.1 "java/lang/Object" ∈ lw_tbl) : eMet l E yJ8_addLast (ws_ yJ8_addLast cJ8_addLast 3 none) ({ frames := 1, cells := 0, slots := 0, locals := 21 }) [.ref q, .ref i] [eAD E q a h xs, b] (fun v Γ => v = none ∧ Γ = [eAD E q a h (xs ++ [i]), b]) := by
  refine eStart (cc := cJ8_addLast) (nL := 3) (L := [some (.ref q), some (.ref i), none]) hl (by decide) rfl (List.forall_mem_cons.mpr ⟨rfl, (List.forall_mem_cons.mpr ⟨rfl, (fun _ h => absurd h List.not_mem_nil)⟩)⟩) (Nat.le_of_ble_eq_true rfl) ?_
  intro x rs C
  show eZ x E (eQ x E (fun v Γ => v = none ∧ Γ = [eAD E q a h (xs ++ [i]), b]) rs) [eAD E q a h xs, b, rs] 0 [some (.ref q), some (.ref i), none] [] 0 0
  generalize hQ_ : eQ x E (fun v Γ => v = none ∧ Γ = [eAD E q a h (xs ++ [i]), b]) rs = Q_
  have hT : dqT h xs.length < 17 := Nat.mod_lt _ (by decide)
  refine z_cut 0 (bs := [eO q 17 [.ref a, .int (nI h), .int (nI (dqT h xs.length))], eQA E a 17 (dqF h xs)]) rfl eAD_cut rfl ?_
  show eZ x E _ [eO q 17 [.ref a, .int (nI h), .int (nI (dqT h xs.length))], eQA E a 17 (dqF h xs), b, rs] 0 [some (.ref q), some (.ref i), none] [] 0 0
  refine z_aload_n C dJ8_addLast_0 rfl rfl ?_
  refine z_ifnonnull (r := some i) 12 C dJ8_addLast_1 (by decide) (fun nn_ h1 => ?_) (fun h1 => ?_)
  · refine z_aload_n C dJ8_addLast_12 rfl rfl ?_
    refine z_get eK17 0 0 C dJ8_addLast_13 rfl rfl q355 (eSame1 rfl) (by decide) rfl ?_
    refine z_astore_n (L2 := [some (.ref q), some (.ref i), some (.ref a)]) C dJ8_addLast_16 rfl (Nat.le_of_ble_eq_true rfl) rfl ?_
    refine z_aload_n C dJ8_addLast_17 rfl rfl ?_
    refine z_aload_n C dJ8_addLast_18 rfl rfl ?_
    refine z_get eK17 0 2 C dJ8_addLast_19 rfl rfl q357 (eSame1 rfl) (by decide) rfl ?_
    refine z_aload_n C dJ8_addLast_22 rfl rfl ?_
    refine z_aast (m := dqT h xs.length) (Γ2 := [eO q 17 [.ref a, .int (nI h), .int (nI (dqT h xs.length))], eQA E a 17 (dqF h (xs ++ [i])), b, rs]) 1 C dJ8_addLast_23 rfl (eIn (i := 2) rfl hb) hc hq rfl hT (by decide) (by rw [dqF_add hh (by omega)]; rfl) ?_
    refine z_aload_n C dJ8_addLast_24 rfl rfl ?_
    refine z_get eK17 0 1 C dJ8_addLast_25 rfl rfl q356 (eSame1 rfl) (by decide) rfl ?_
    refine z_aload_n C dJ8_addLast_28 rfl rfl ?_
    refine z_aload_n C dJ8_addLast_29 rfl rfl ?_
    refine z_get eK17 0 2 C dJ8_addLast_30 rfl rfl q357 (eSame1 rfl) (by decide) rfl ?_
    refine z_aload_n C dJ8_addLast_33 rfl rfl ?_
    refine z_alenq (v := 17) 1 C dJ8_addLast_34 rfl rfl ?_
    refine z_callS (As := [.int (nI (dqT h xs.length)), .int 17]) (rest := [.ref q, .int (nI h)]) (Δ := [eO q 17 [.ref a, .int (nI h), .int (nI (dqT h xs.length))], eQA E a 17 (dqF h (xs ++ [i])), b, rs]) [] [0, 1, 2, 3] 2 (m_AD_inc hl E (dqT h xs.length) hT) C dJ8_addLast_35 rfl rfl rfl q1278 q1279 q62 q1280 (by decide +kernel) rfl (ePm 4 rfl (by decide +kernel)) rfl rfl ⟨Nat.le_of_ble_eq_true rfl, Nat.le_of_ble_eq_true rfl⟩ (Nat.le_trans (eSm rfl (eSm rfl eS0)) (Nat.le_of_ble_eq_true rfl)) ⟨Nat.le_of_ble_eq_true rfl, Nat.le_of_ble_eq_true rfl⟩ (fun v_ Γ_ hp_ => ?_)
    obtain ⟨rfl, rfl⟩ := hp_
    show eZ x E _ [eO q 17 [.ref a, .int (nI h), .int (nI (dqT h xs.length))], eQA E a 17 (dqF h (xs ++ [i])), b, rs] 38 [some (.ref q), some (.ref i), some (.ref a)] [.int (nI (dqT (dqT h xs.length) 1)), .ref q, .int (nI h)] 0 0
    have hT2 : dqT (dqT h xs.length) 1 = dqT h (xs ++ [i]).length := by rw [List.length_append]; show _ = dqT h (xs.length + 1); unfold dqT; omega
    refine z_is (w := nI (dqT h (xs ++ [i]).length)) (by rw [hT2]) ?_
    refine z_dup_x1 C dJ8_addLast_38 rfl rfl ?_
    refine z_put eK17 0 2 (Γ2 := [eO q 17 [.ref a, .int (nI h), .int (nI (dqT h (xs ++ [i]).length))], eQA E a 17 (dqF h (xs ++ [i])), b, rs]) C dJ8_addLast_39 rfl rfl q357 (eSame1 rfl) (by decide) rfl rfl rfl rfl (Nat.le_of_ble_eq_true rfl) rfl ?_
    refine z_icmp_ne 50 C dJ8_addLast_42 (by decide) (fun h2 => ?_) (fun h2 => ?_)
    · refine z_pick (Γ' := [eO q 17 [.ref a, .int (nI h), .int (nI (dqT h (xs ++ [i]).length))], eQA E a 17 (dqF h (xs ++ [i])), b, rs]) [0, 1, 2, 3] (ePm 4 rfl (by decide +kernel)) rfl ?_
      refine z_join 2 (b := eAD E q a h (xs ++ [i])) eAD_cut.symm rfl ?_
      show eZ x E _ [eAD E q a h (xs ++ [i]), b, rs] 50 [some (.ref q), some (.ref i), some (.ref a)] [] 0 0
      subst hQ_
      exact z_vret (Γ := [eAD E q a h (xs ++ [i]), b]) C dJ8_addLast_50 rfl (Nat.le_of_ble_eq_true rfl) (Nat.le_of_ble_eq_true rfl) ⟨rfl, rfl⟩
    · exact absurd ((nI_eq (by omega) (by have h3 : dqT h (xs ++ [i]).length < 17 := Nat.mod_lt _ (by decide); omega)).mp h2) (by rw [List.length_append]; show ¬ h = dqT h (xs.length + 1); unfold dqT; omega)
  · cases h1

set_option maxHeartbeats 4000000 in
theorem m_AD_size {l : Launch} (hl : l.stackTraces = false) (E : eEn) (q a h : Nat) (xs : List Nat) (hh : h < 17) (hx : xs.length < 8)  : eMet l E yJ8_size (ws_ yJ8_size cJ8_size 1 (some .int)) ({ frames := 1, cells := 0, slots := 0, locals := 22 }) [.ref q] [eAD E q a h xs] (fun v Γ => v = some (.int (nI xs.length)) ∧ Γ = [eAD E q a h xs]) := by
  refine eStart (cc := cJ8_size) (nL := 1) (L := [some (.ref q)]) hl (by decide) rfl (List.forall_mem_cons.mpr ⟨rfl, (fun _ h => absurd h List.not_mem_nil)⟩) (Nat.le_of_ble_eq_true rfl) ?_
  intro x rs C
  show eZ x E (eQ x E (fun v Γ => v = some (.int (nI xs.length)) ∧ Γ = [eAD E q a h xs]) rs) [eAD E q a h xs, rs] 0 [some (.ref q)] [] 0 0
  generalize hQ_ : eQ x E (fun v Γ => v = some (.int (nI xs.length)) ∧ Γ = [eAD E q a h xs]) rs = Q_
  refine z_cut 0 (bs := [eO q 17 [.ref a, .int (nI h), .int (nI (dqT h xs.length))], eQA E a 17 (dqF h xs)]) rfl eAD_cut rfl ?_
  show eZ x E _ [eO q 17 [.ref a, .int (nI h), .int (nI (dqT h xs.length))], eQA E a 17 (dqF h xs), rs] 0 [some (.ref q)] [] 0 0
  refine z_aload_n C dJ8_size_0 rfl rfl ?_
  refine z_get eK17 0 2 C dJ8_size_1 rfl rfl q357 (eSame1 rfl) (by decide) rfl ?_
  refine z_aload_n C dJ8_size_4 rfl rfl ?_
  refine z_get eK17 0 1 C dJ8_size_5 rfl rfl q356 (eSame1 rfl) (by decide) rfl ?_
  refine z_aload_n C dJ8_size_8 rfl rfl ?_
  refine z_get eK17 0 0 C dJ8_size_9 rfl rfl q355 (eSame1 rfl) (by decide) rfl ?_
  refine z_alenq (v := 17) 1 C dJ8_size_12 rfl rfl ?_
  refine z_callS (As := [.int (nI (dqT h xs.length)), .int (nI h), .int 17]) (rest := []) (Δ := [eO q 17 [.ref a, .int (nI h), .int (nI (dqT h xs.length))], eQA E a 17 (dqF h xs), rs]) [] [0, 1, 2] 3 (m_AD_sub hl E h xs.length hh (by omega)) C dJ8_size_13 rfl rfl rfl q1045 q1046 q62 q1047 (by decide +kernel) rfl (ePm 3 rfl (by decide +kernel)) rfl rfl ⟨Nat.le_of_ble_eq_true rfl, Nat.le_of_ble_eq_true rfl⟩ (Nat.le_trans eS0 (Nat.le_of_ble_eq_true rfl)) ⟨Nat.le_of_ble_eq_true rfl, Nat.le_of_ble_eq_true rfl⟩ (fun v_ Γ_ hp_ => ?_)
  obtain ⟨rfl, rfl⟩ := hp_
  show eZ x E _ [eO q 17 [.ref a, .int (nI h), .int (nI (dqT h xs.length))], eQA E a 17 (dqF h xs), rs] 16 [some (.ref q)] [.int (nI xs.length)] 0 0
  refine z_pick (Γ' := [eO q 17 [.ref a, .int (nI h), .int (nI (dqT h xs.length))], eQA E a 17 (dqF h xs), rs]) [0, 1, 2] (ePm 3 rfl (by decide +kernel)) rfl ?_
  refine z_join 2 (b := eAD E q a h xs) eAD_cut.symm rfl ?_
  show eZ x E _ [eAD E q a h xs, rs] 16 [some (.ref q)] [.int (nI xs.length)] 0 0
  subst hQ_
  exact z_ret (Γ := [eAD E q a h xs]) C dJ8_size_16 rfl rfl (Nat.le_of_ble_eq_true rfl) (Nat.le_of_ble_eq_true rfl) ⟨rfl, rfl⟩

set_option maxHeartbeats 4000000 in
theorem m_AD_isEmpty {l : Launch} (hl : l.stackTraces = false) (E : eEn) (q a h : Nat) (xs : List Nat) (hh : h < 17) (hx : xs.length < 8)  : eMet l E yJ8_isEmpty (ws_ yJ8_isEmpty cJ8_isEmpty 1 (some .boolean)) ({ frames := 0, cells := 0, slots := 0, locals := 0 }) [.ref q] [eAD E q a h xs] (fun v Γ => v = some (.int (eB xs.isEmpty)) ∧ Γ = [eAD E q a h xs]) := by
  refine eStart (cc := cJ8_isEmpty) (nL := 1) (L := [some (.ref q)]) hl (by decide) rfl (List.forall_mem_cons.mpr ⟨rfl, (fun _ h => absurd h List.not_mem_nil)⟩) (Nat.le_of_ble_eq_true rfl) ?_
  intro x rs C
  show eZ x E (eQ x E (fun v Γ => v = some (.int (eB xs.isEmpty)) ∧ Γ = [eAD E q a h xs]) rs) [eAD E q a h xs, rs] 0 [some (.ref q)] [] 0 0
  generalize hQ_ : eQ x E (fun v Γ => v = some (.int (eB xs.isEmpty)) ∧ Γ = [eAD E q a h xs]) rs = Q_
  have hT : dqT h xs.length < 17 := Nat.mod_lt _ (by decide)
  refine z_cut 0 (bs := [eO q 17 [.ref a, .int (nI h), .int (nI (dqT h xs.length))], eQA E a 17 (dqF h xs)]) rfl eAD_cut rfl ?_
  show eZ x E _ [eO q 17 [.ref a, .int (nI h), .int (nI (dqT h xs.length))], eQA E a 17 (dqF h xs), rs] 0 [some (.ref q)] [] 0 0
  refine z_aload_n C dJ8_isEmpty_0 rfl rfl ?_
  refine z_get eK17 0 1 C dJ8_isEmpty_1 rfl rfl q356 (eSame1 rfl) (by decide) rfl ?_
  refine z_aload_n C dJ8_isEmpty_4 rfl rfl ?_
  refine z_get eK17 0 2 C dJ8_isEmpty_5 rfl rfl q357 (eSame1 rfl) (by decide) rfl ?_
  refine z_icmp_ne 15 C dJ8_isEmpty_8 (by decide) (fun h1 => ?_) (fun h1 => ?_)
  · refine z_iconst (v := 0) C dJ8_isEmpty_15 (by decide) ?_
    refine z_pick (Γ' := [eO q 17 [.ref a, .int (nI h), .int (nI (dqT h xs.length))], eQA E a 17 (dqF h xs), rs]) [0, 1, 2] (ePm 3 rfl (by decide +kernel)) rfl ?_
    refine z_join 2 (b := eAD E q a h xs) eAD_cut.symm rfl ?_
    show eZ x E _ [eAD E q a h xs, rs] 16 [some (.ref q)] [.int 0] 0 0
    subst hQ_
    exact z_ret (Γ := [eAD E q a h xs]) C dJ8_isEmpty_16 rfl (by decide) (Nat.le_of_ble_eq_true rfl) (Nat.le_of_ble_eq_true rfl) ⟨by rw [show xs.isEmpty = false from by cases xs with | nil => exact absurd (by rw [show dqT h ([] : List Nat).length = h from by show dqT h 0 = h; unfold dqT; omega]) h1 | cons x t => rfl]; rfl, rfl⟩
  · refine z_iconst (v := 1) C dJ8_isEmpty_11 (by decide) ?_
    refine z_goto 16 C dJ8_isEmpty_12 (by decide) ?_
    refine z_pick (Γ' := [eO q 17 [.ref a, .int (nI h), .int (nI (dqT h xs.length))], eQA E a 17 (dqF h xs), rs]) [0, 1, 2] (ePm 3 rfl (by decide +kernel)) rfl ?_
    refine z_join 2 (b := eAD E q a h xs) eAD_cut.symm rfl ?_
    show eZ x E _ [eAD E q a h xs, rs] 16 [some (.ref q)] [.int 1] 0 0
    subst hQ_
    exact z_ret (Γ := [eAD E q a h xs]) C dJ8_isEmpty_16 rfl (by decide) (Nat.le_of_ble_eq_true rfl) (Nat.le_of_ble_eq_true rfl) ⟨by rw [show xs.isEmpty = true from by cases xs with | nil => rfl | cons x t => exact absurd ((nI_eq (by omega) (by omega)).mp h1) (by unfold dqT; rw [List.length_cons] at hx ⊢; omega)]; rfl, rfl⟩

set_option maxHeartbeats 4000000 in
theorem m_AD_pollFirst {l : Launch} (hl : l.stackTraces = false) (E : eEn) (q a h z : Nat) (xs : List Nat) (hh : h < 17) (hx : xs.length < 8)  : eMet l E yJ8_pollFirst (ws_ yJ8_pollFirst cJ8_pollFirst 4 (some (.object "java/lang/Object"))) ({ frames := 1, cells := 0, slots := 0, locals := 21 }) [.ref q] [eAD E q a h (z :: xs)] (fun v Γ => v = some (.ref z) ∧ Γ = [eAD E q a (dqT h 1) xs]) := by
  refine eStart (cc := cJ8_pollFirst) (nL := 4) (L := [some (.ref q), none, none, none]) hl (by decide) rfl (List.forall_mem_cons.mpr ⟨rfl, (fun _ h => absurd h List.not_mem_nil)⟩) (Nat.le_of_ble_eq_true rfl) ?_
  intro x rs C
  show eZ x E (eQ x E (fun v Γ => v = some (.ref z) ∧ Γ = [eAD E q a (dqT h 1) xs]) rs) [eAD E q a h (z :: xs), rs] 0 [some (.ref q), none, none, none] [] 0 0
  generalize hQ_ : eQ x E (fun v Γ => v = some (.ref z) ∧ Γ = [eAD E q a (dqT h 1) xs]) rs = Q_
  refine z_cut 0 (bs := [eO q 17 [.ref a, .int (nI h), .int (nI (dqT h (z :: xs).length))], eQA E a 17 (dqF h (z :: xs))]) rfl eAD_cut rfl ?_
  show eZ x E _ [eO q 17 [.ref a, .int (nI h), .int (nI (dqT h (z :: xs).length))], eQA E a 17 (dqF h (z :: xs)), rs] 0 [some (.ref q), none, none, none] [] 0 0
  refine z_aload_n C dJ8_pollFirst_0 rfl rfl ?_
  refine z_get eK17 0 0 C dJ8_pollFirst_1 rfl rfl q355 (eSame1 rfl) (by decide) rfl ?_
  refine z_dup C dJ8_pollFirst_4 rfl ?_
  refine z_astore_n (L2 := [some (.ref q), some (.ref a), none, none]) C dJ8_pollFirst_5 rfl (Nat.le_of_ble_eq_true rfl) rfl ?_
  refine z_aload_n C dJ8_pollFirst_6 rfl rfl ?_
  refine z_get eK17 0 1 C dJ8_pollFirst_7 rfl rfl q356 (eSame1 rfl) (by decide) rfl ?_
  refine z_dup C dJ8_pollFirst_10 rfl ?_
  refine z_istore_n (L2 := [some (.ref q), some (.ref a), some (.int (nI h)), none]) C dJ8_pollFirst_11 rfl (Nat.le_of_ble_eq_true rfl) rfl ?_
  refine z_callS (As := [.ref a, .int (nI h)]) (rest := []) (Δ := [eO q 17 [.ref a, .int (nI h), .int (nI (dqT h (z :: xs).length))], rs]) [1] [0, 2] 2 (m_AD_elementAt hl E a h z (dqF h (z :: xs)) hh (dqF_hd hh)) C dJ8_pollFirst_12 rfl rfl rfl q1302 q1303 q62 q1304 (by decide +kernel) rfl (ePm 3 rfl (by decide +kernel)) rfl rfl ⟨Nat.le_of_ble_eq_true rfl, Nat.le_of_ble_eq_true rfl⟩ (Nat.le_trans eS0 (Nat.le_of_ble_eq_true rfl)) ⟨Nat.le_of_ble_eq_true rfl, Nat.le_of_ble_eq_true rfl⟩ (fun v_ Γ_ hp_ => ?_)
  obtain ⟨rfl, rfl⟩ := hp_
  show eZ x E _ [eQA E a 17 (dqF h (z :: xs)), eO q 17 [.ref a, .int (nI h), .int (nI (dqT h (z :: xs).length))], rs] 15 [some (.ref q), some (.ref a), some (.int (nI h)), none] [.ref z] 0 0
  refine z_astore_n (L2 := [some (.ref q), some (.ref a), some (.int (nI h)), some (.ref z)]) C dJ8_pollFirst_15 rfl (Nat.le_of_ble_eq_true rfl) rfl ?_
  refine z_aload_n C dJ8_pollFirst_16 rfl rfl ?_
  refine z_ifnull (r := some z) 34 C dJ8_pollFirst_17 (by decide) (fun h1 => ?_) (fun nn_ h1 => ?_)
  · cases h1
  · refine z_aload_n C dJ8_pollFirst_20 rfl rfl ?_
    refine z_iload_n C dJ8_pollFirst_21 rfl rfl ?_
    refine z_null C dJ8_pollFirst_22 ?_
    refine z_aastN (m := h) (Γ2 := [eQA E a 17 (dqF (dqT h 1) xs), eO q 17 [.ref a, .int (nI h), .int (nI (dqT h (z :: xs).length))], rs]) 0 C dJ8_pollFirst_23 rfl rfl hh (by decide) (by rw [dqF_pop hh (by omega)]; rfl) ?_
    refine z_aload_n C dJ8_pollFirst_24 rfl rfl ?_
    refine z_iload_n C dJ8_pollFirst_25 rfl rfl ?_
    refine z_aload_n C dJ8_pollFirst_26 rfl rfl ?_
    refine z_alenq (v := 17) 0 C dJ8_pollFirst_27 rfl rfl ?_
    refine z_callS (As := [.int (nI h), .int 17]) (rest := [.ref q]) (Δ := [eQA E a 17 (dqF (dqT h 1) xs), eO q 17 [.ref a, .int (nI h), .int (nI (dqT h (z :: xs).length))], rs]) [] [0, 1, 2] 2 (m_AD_inc hl E h hh) C dJ8_pollFirst_28 rfl rfl rfl q1278 q1279 q62 q1280 (by decide +kernel) rfl (ePm 3 rfl (by decide +kernel)) rfl rfl ⟨Nat.le_of_ble_eq_true rfl, Nat.le_of_ble_eq_true rfl⟩ (Nat.le_trans (eSm rfl eS0) (Nat.le_of_ble_eq_true rfl)) ⟨Nat.le_of_ble_eq_true rfl, Nat.le_of_ble_eq_true rfl⟩ (fun v_ Γ_ hp_ => ?_)
    obtain ⟨rfl, rfl⟩ := hp_
    show eZ x E _ [eQA E a 17 (dqF (dqT h 1) xs), eO q 17 [.ref a, .int (nI h), .int (nI (dqT h (z :: xs).length))], rs] 31 [some (.ref q), some (.ref a), some (.int (nI h)), some (.ref z)] [.int (nI (dqT h 1)), .ref q] 0 0
    refine z_put eK17 1 1 (Γ2 := [eQA E a 17 (dqF (dqT h 1) xs), eO q 17 [.ref a, .int (nI (dqT h 1)), .int (nI (dqT h (z :: xs).length))], rs]) C dJ8_pollFirst_31 rfl rfl q356 (eSame1 rfl) (by decide) rfl rfl rfl rfl (Nat.le_of_ble_eq_true rfl) rfl ?_
    refine z_aload_n C dJ8_pollFirst_34 rfl rfl ?_
    refine z_pick (Γ' := [eO q 17 [.ref a, .int (nI (dqT h 1)), .int (nI (dqT h (z :: xs).length))], eQA E a 17 (dqF (dqT h 1) xs), rs]) [1, 0, 2] (ePm 3 rfl (by decide +kernel)) rfl ?_
    refine z_join 2 (b := eAD E q a (dqT h 1) xs) (by rw [eAD_cut, show dqT (dqT h 1) xs.length = dqT h (z :: xs).length from by rw [List.length_cons]; unfold dqT; omega]; rfl) rfl ?_
    show eZ x E _ [eAD E q a (dqT h 1) xs, rs] 35 [some (.ref q), some (.ref a), some (.int (nI h)), some (.ref z)] [.ref z] 0 0
    subst hQ_
    exact z_aret (Γ := [eAD E q a (dqT h 1) xs]) C dJ8_pollFirst_35 rfl (Or.inl ⟨_, rfl⟩) (Or.inr ⟨_, rfl⟩) (Nat.le_of_ble_eq_true rfl) (Nat.le_of_ble_eq_true rfl) ⟨rfl, rfl⟩

set_option maxHeartbeats 4000000 in
theorem m_AD_removeFirst {l : Launch} (hl : l.stackTraces = false) (E : eEn) (q a h z : Nat) (xs : List Nat) (hh : h < 17) (hx : xs.length < 8)  : eMet l E yJ8_removeFirst (ws_ yJ8_removeFirst cJ8_removeFirst 2 (some (.object "java/lang/Object"))) ({ frames := 2, cells := 0, slots := 0, locals := 44 }) [.ref q] [eAD E q a h (z :: xs)] (fun v Γ => v = some (.ref z) ∧ Γ = [eAD E q a (dqT h 1) xs]) := by
  refine eStart (cc := cJ8_removeFirst) (nL := 2) (L := [some (.ref q), none]) hl (by decide) rfl (List.forall_mem_cons.mpr ⟨rfl, (fun _ h => absurd h List.not_mem_nil)⟩) (Nat.le_of_ble_eq_true rfl) ?_
  intro x rs C
  show eZ x E (eQ x E (fun v Γ => v = some (.ref z) ∧ Γ = [eAD E q a (dqT h 1) xs]) rs) [eAD E q a h (z :: xs), rs] 0 [some (.ref q), none] [] 0 0
  generalize hQ_ : eQ x E (fun v Γ => v = some (.ref z) ∧ Γ = [eAD E q a (dqT h 1) xs]) rs = Q_
  refine z_aload_n C dJ8_removeFirst_0 rfl rfl ?_
  refine z_callV (r := (RJ8, TJ8, 3)) (As := []) (rest := []) (Δ := [rs]) [0] [1] 0 (m_AD_pollFirst hl E q a h z xs hh hx) C dJ8_removeFirst_1 rfl rfl (eIn (i := 0) rfl eAD_mem) rfl rfl q1298 q1299 q1300 q62 q1301 (by decide +kernel) rfl (ePm 2 rfl (by decide +kernel)) rfl rfl ⟨Nat.le_of_ble_eq_true rfl, Nat.le_of_ble_eq_true rfl⟩ (Nat.le_trans eS0 (Nat.le_of_ble_eq_true rfl)) ⟨Nat.le_of_ble_eq_true rfl, Nat.le_of_ble_eq_true rfl⟩ (fun v_ Γ_ hp_ => ?_)
  obtain ⟨rfl, rfl⟩ := hp_
  show eZ x E _ [eAD E q a (dqT h 1) xs, rs] 4 [some (.ref q), none] [.ref z] 0 0
  refine z_astore_n (L2 := [some (.ref q), some (.ref z)]) C dJ8_removeFirst_4 rfl (Nat.le_of_ble_eq_true rfl) rfl ?_
  refine z_aload_n C dJ8_removeFirst_5 rfl rfl ?_
  refine z_ifnonnull (r := some z) 17 C dJ8_removeFirst_6 (by decide) (fun nn_ h1 => ?_) (fun h1 => ?_)
  · refine z_aload_n C dJ8_removeFirst_17 rfl rfl ?_
    subst hQ_
    exact z_aret (Γ := [eAD E q a (dqT h 1) xs]) C dJ8_removeFirst_18 rfl (Or.inl ⟨_, rfl⟩) (Or.inr ⟨_, rfl⟩) (Nat.le_of_ble_eq_true rfl) (Nat.le_of_ble_eq_true rfl) ⟨rfl, rfl⟩
  · cases h1

set_option maxHeartbeats 4000000 in
theorem m_AD_pollLast {l : Launch} (hl : l.stackTraces = false) (E : eEn) (q a h z : Nat) (xs : List Nat) (hh : h < 17) (hx : xs.length < 8)  : eMet l E yJ8_pollLast (ws_ yJ8_pollLast cJ8_pollLast 4 (some (.object "java/lang/Object"))) ({ frames := 1, cells := 0, slots := 0, locals := 21 }) [.ref q] [eAD E q a h (xs ++ [z])] (fun v Γ => v = some (.ref z) ∧ Γ = [eAD E q a h xs]) := by
  refine eStart (cc := cJ8_pollLast) (nL := 4) (L := [some (.ref q), none, none, none]) hl (by decide) rfl (List.forall_mem_cons.mpr ⟨rfl, (fun _ h => absurd h List.not_mem_nil)⟩) (Nat.le_of_ble_eq_true rfl) ?_
  intro x rs C
  show eZ x E (eQ x E (fun v Γ => v = some (.ref z) ∧ Γ = [eAD E q a h xs]) rs) [eAD E q a h (xs ++ [z]), rs] 0 [some (.ref q), none, none, none] [] 0 0
  generalize hQ_ : eQ x E (fun v Γ => v = some (.ref z) ∧ Γ = [eAD E q a h xs]) rs = Q_
  have hT : dqT h xs.length < 17 := Nat.mod_lt _ (by decide)
  have hT3 : dqT h (xs ++ [z]).length < 17 := Nat.mod_lt _ (by decide)
  have hT2 : dqT (dqT h (xs ++ [z]).length) 16 = dqT h xs.length := by rw [List.length_append]; show dqT (dqT h (xs.length + 1)) 16 = _; unfold dqT; omega
  refine z_cut 0 (bs := [eO q 17 [.ref a, .int (nI h), .int (nI (dqT h (xs ++ [z]).length))], eQA E a 17 (dqF h (xs ++ [z]))]) rfl eAD_cut rfl ?_
  show eZ x E _ [eO q 17 [.ref a, .int (nI h), .int (nI (dqT h (xs ++ [z]).length))], eQA E a 17 (dqF h (xs ++ [z])), rs] 0 [some (.ref q), none, none, none] [] 0 0
  refine z_aload_n C dJ8_pollLast_0 rfl rfl ?_
  refine z_get eK17 0 0 C dJ8_pollLast_1 rfl rfl q355 (eSame1 rfl) (by decide) rfl ?_
  refine z_dup C dJ8_pollLast_4 rfl ?_
  refine z_astore_n (L2 := [some (.ref q), some (.ref a), none, none]) C dJ8_pollLast_5 rfl (Nat.le_of_ble_eq_true rfl) rfl ?_
  refine z_aload_n C dJ8_pollLast_6 rfl rfl ?_
  refine z_get eK17 0 2 C dJ8_pollLast_7 rfl rfl q357 (eSame1 rfl) (by decide) rfl ?_
  refine z_aload_n C dJ8_pollLast_10 rfl rfl ?_
  refine z_alenq (v := 17) 1 C dJ8_pollLast_11 rfl rfl ?_
  refine z_callS (As := [.int (nI (dqT h (xs ++ [z]).length)), .int 17]) (rest := [.ref a]) (Δ := [eO q 17 [.ref a, .int (nI h), .int (nI (dqT h (xs ++ [z]).length))], eQA E a 17 (dqF h (xs ++ [z])), rs]) [] [0, 1, 2] 2 (m_AD_dec hl E (dqT h (xs ++ [z]).length) hT3) C dJ8_pollLast_12 rfl rfl rfl q1473 q1474 q62 q1475 (by decide +kernel) rfl (ePm 3 rfl (by decide +kernel)) rfl rfl ⟨Nat.le_of_ble_eq_true rfl, Nat.le_of_ble_eq_true rfl⟩ (Nat.le_trans (eSm rfl eS0) (Nat.le_of_ble_eq_true rfl)) ⟨Nat.le_of_ble_eq_true rfl, Nat.le_of_ble_eq_true rfl⟩ (fun v_ Γ_ hp_ => ?_)
  obtain ⟨rfl, rfl⟩ := hp_
  show eZ x E _ [eO q 17 [.ref a, .int (nI h), .int (nI (dqT h (xs ++ [z]).length))], eQA E a 17 (dqF h (xs ++ [z])), rs] 15 [some (.ref q), some (.ref a), none, none] [.int (nI (dqT (dqT h (xs ++ [z]).length) 16)), .ref a] 0 0
  refine z_is (w := nI (dqT h xs.length)) (by rw [hT2]) ?_
  refine z_dup C dJ8_pollLast_15 rfl ?_
  refine z_istore_n (L2 := [some (.ref q), some (.ref a), some (.int (nI (dqT h xs.length))), none]) C dJ8_pollLast_16 rfl (Nat.le_of_ble_eq_true rfl) rfl ?_
  refine z_callS (As := [.ref a, .int (nI (dqT h xs.length))]) (rest := []) (Δ := [eO q 17 [.ref a, .int (nI h), .int (nI (dqT h (xs ++ [z]).length))], rs]) [1] [0, 2] 2 (m_AD_elementAt hl E a (dqT h xs.length) z (dqF h (xs ++ [z])) hT (dqF_lst hh (by omega))) C dJ8_pollLast_17 rfl rfl rfl q1302 q1303 q62 q1304 (by decide +kernel) rfl (ePm 3 rfl (by decide +kernel)) rfl rfl ⟨Nat.le_of_ble_eq_true rfl, Nat.le_of_ble_eq_true rfl⟩ (Nat.le_trans eS0 (Nat.le_of_ble_eq_true rfl)) ⟨Nat.le_of_ble_eq_true rfl, Nat.le_of_ble_eq_true rfl⟩ (fun v_ Γ_ hp_ => ?_)
  obtain ⟨rfl, rfl⟩ := hp_
  show eZ x E _ [eQA E a 17 (dqF h (xs ++ [z])), eO q 17 [.ref a, .int (nI h), .int (nI (dqT h (xs ++ [z]).length))], rs] 20 [some (.ref q), some (.ref a), some (.int (nI (dqT h xs.length))), none] [.ref z] 0 0
  refine z_astore_n (L2 := [some (.ref q), some (.ref a), some (.int (nI (dqT h xs.length))), some (.ref z)]) C dJ8_pollLast_20 rfl (Nat.le_of_ble_eq_true rfl) rfl ?_
  refine z_aload_n C dJ8_pollLast_21 rfl rfl ?_
  refine z_ifnull (r := some z) 34 C dJ8_pollLast_22 (by decide) (fun h1 => ?_) (fun nn_ h1 => ?_)
  · cases h1
  · refine z_aload_n C dJ8_pollLast_25 rfl rfl ?_
    refine z_aload_n C dJ8_pollLast_26 rfl rfl ?_
    refine z_iload_n C dJ8_pollLast_27 rfl rfl ?_
    refine z_dup_x1 C dJ8_pollLast_28 rfl rfl ?_
    refine z_put eK17 1 2 (Γ2 := [eQA E a 17 (dqF h (xs ++ [z])), eO q 17 [.ref a, .int (nI h), .int (nI (dqT h xs.length))], rs]) C dJ8_pollLast_29 rfl rfl q357 (eSame1 rfl) (by decide) rfl rfl rfl rfl (Nat.le_of_ble_eq_true rfl) rfl ?_
    refine z_null C dJ8_pollLast_32 ?_
    refine z_aastN (m := dqT h xs.length) (Γ2 := [eQA E a 17 (dqF h xs), eO q 17 [.ref a, .int (nI h), .int (nI (dqT h xs.length))], rs]) 0 C dJ8_pollLast_33 rfl rfl hT (by decide) (by rw [dqF_drop hh (by omega)]; rfl) ?_
    refine z_aload_n C dJ8_pollLast_34 rfl rfl ?_
    refine z_pick (Γ' := [eO q 17 [.ref a, .int (nI h), .int (nI (dqT h xs.length))], eQA E a 17 (dqF h xs), rs]) [1, 0, 2] (ePm 3 rfl (by decide +kernel)) rfl ?_
    refine z_join 2 (b := eAD E q a h xs) eAD_cut.symm rfl ?_
    show eZ x E _ [eAD E q a h xs, rs] 35 [some (.ref q), some (.ref a), some (.int (nI (dqT h xs.length))), some (.ref z)] [.ref z] 0 0
    subst hQ_
    exact z_aret (Γ := [eAD E q a h xs]) C dJ8_pollLast_35 rfl (Or.inl ⟨_, rfl⟩) (Or.inr ⟨_, rfl⟩) (Nat.le_of_ble_eq_true rfl) (Nat.le_of_ble_eq_true rfl) ⟨rfl, rfl⟩

set_option maxHeartbeats 4000000 in
theorem m_AD_removeLast {l : Launch} (hl : l.stackTraces = false) (E : eEn) (q a h z : Nat) (xs : List Nat) (hh : h < 17) (hx : xs.length < 8)  : eMet l E yJ8_removeLast (ws_ yJ8_removeLast cJ8_removeLast 2 (some (.object "java/lang/Object"))) ({ frames := 2, cells := 0, slots := 0, locals := 44 }) [.ref q] [eAD E q a h (xs ++ [z])] (fun v Γ => v = some (.ref z) ∧ Γ = [eAD E q a h xs]) := by
  refine eStart (cc := cJ8_removeLast) (nL := 2) (L := [some (.ref q), none]) hl (by decide) rfl (List.forall_mem_cons.mpr ⟨rfl, (fun _ h => absurd h List.not_mem_nil)⟩) (Nat.le_of_ble_eq_true rfl) ?_
  intro x rs C
  show eZ x E (eQ x E (fun v Γ => v = some (.ref z) ∧ Γ = [eAD E q a h xs]) rs) [eAD E q a h (xs ++ [z]), rs] 0 [some (.ref q), none] [] 0 0
  generalize hQ_ : eQ x E (fun v Γ => v = some (.ref z) ∧ Γ = [eAD E q a h xs]) rs = Q_
  refine z_aload_n C dJ8_removeLast_0 rfl rfl ?_
  refine z_callV (r := (RJ8, TJ8, 3)) (As := []) (rest := []) (Δ := [rs]) [0] [1] 0 (m_AD_pollLast hl E q a h z xs hh hx) C dJ8_removeLast_1 rfl rfl (eIn (i := 0) rfl eAD_mem) rfl rfl q1469 q1470 q1471 q62 q1472 (by decide +kernel) rfl (ePm 2 rfl (by decide +kernel)) rfl rfl ⟨Nat.le_of_ble_eq_true rfl, Nat.le_of_ble_eq_true rfl⟩ (Nat.le_trans eS0 (Nat.le_of_ble_eq_true rfl)) ⟨Nat.le_of_ble_eq_true rfl, Nat.le_of_ble_eq_true rfl⟩ (fun v_ Γ_ hp_ => ?_)
  obtain ⟨rfl, rfl⟩ := hp_
  show eZ x E _ [eAD E q a h xs, rs] 4 [some (.ref q), none] [.ref z] 0 0
  refine z_astore_n (L2 := [some (.ref q), some (.ref z)]) C dJ8_removeLast_4 rfl (Nat.le_of_ble_eq_true rfl) rfl ?_
  refine z_aload_n C dJ8_removeLast_5 rfl rfl ?_
  refine z_ifnonnull (r := some z) 17 C dJ8_removeLast_6 (by decide) (fun nn_ h1 => ?_) (fun h1 => ?_)
  · refine z_aload_n C dJ8_removeLast_17 rfl rfl ?_
    subst hQ_
    exact z_aret (Γ := [eAD E q a h xs]) C dJ8_removeLast_18 rfl (Or.inl ⟨_, rfl⟩) (Or.inr ⟨_, rfl⟩) (Nat.le_of_ble_eq_true rfl) (Nat.le_of_ble_eq_true rfl) ⟨rfl, rfl⟩
  · cases h1
