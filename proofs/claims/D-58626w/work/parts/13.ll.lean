/-! ===== LinkedList: a list of nodes (address, item) ===== -/
set_option maxRecDepth 100000
/-- the first node's address, or what stands behind -/
def eHd (xs : List (Nat × Nat)) (nx : Option Nat) : Option Nat := match xs with
  | [] => nx
  | q :: _ => some q.1
def eLst (xs : List (Nat × Nat)) (p : Option Nat) : Option Nat := match xs with
  | [] => p
  | q :: t => eLst t (some q.1)
/-- the nodes' cells: item, next, prev -/
def eNs (p : Option Nat) (xs : List (Nat × Nat)) (nx : Option Nat) : va_W := match xs with
  | [] => []
  | q :: t => (q.1, .inr (14, [.ref q.2, va_rf (eHd t nx), va_rf p])) :: eNs (some q.1) t nx
theorem eHd_app (xs ys : List (Nat × Nat)) (nx : Option Nat) : eHd (xs ++ ys) nx = eHd xs (eHd ys nx) := by cases xs <;> rfl
theorem eLst_app (xs ys : List (Nat × Nat)) (p : Option Nat) : eLst (xs ++ ys) p = eLst ys (eLst xs p) := by
  induction xs generalizing p with
  | nil => rfl
  | cons q t ih => exact ih (some q.1)
theorem eNs_app (xs ys : List (Nat × Nat)) (p nx : Option Nat) : eNs p (xs ++ ys) nx = eNs p xs (eHd ys nx) ++ eNs (eLst xs p) ys nx := by
  induction xs generalizing p with
  | nil => rfl
  | cons q t ih =>
    simp only [List.cons_append, eNs, eLst, ih, eHd_app]
theorem e_rfs (a : Nat) : va_rf (some a) = .ref a := rfl
theorem e_rfn : va_rf none = .null := rfl
theorem eHd_nil (nx : Option Nat) : eHd [] nx = nx := rfl
theorem eHd_cons (q : Nat × Nat) (t : List (Nat × Nat)) (nx : Option Nat) : eHd (q :: t) nx = some q.1 := rfl
theorem eLst_nil (p : Option Nat) : eLst [] p = p := rfl
theorem eLst_cons (q : Nat × Nat) (t : List (Nat × Nat)) (p : Option Nat) : eLst (q :: t) p = eLst t (some q.1) := rfl
theorem eNs_nil (p nx : Option Nat) : eNs p [] nx = [] := rfl
theorem eNs_cons (q : Nat × Nat) (t : List (Nat × Nat)) (p nx : Option Nat) : eNs p (q :: t) nx = (q.1, .inr (14, [.ref q.2, va_rf (eHd t nx), va_rf p])) :: eNs (some q.1) t nx := rfl
/-- a list: modCount m, its nodes -/
def eLL (q : Nat) (m : Int32) (xs : List (Nat × Nat)) : va_W := (q, .inr (13, [.int m, .int (nI xs.length), va_rf (eHd xs none), va_rf (eLst xs none)])) :: eNs none xs none
theorem eLL_mem {q : Nat} {m : Int32} {xs : List (Nat × Nat)} : (q, (.inr (13, [.int m, .int (nI xs.length), va_rf (eHd xs none), va_rf (eLst xs none)]) : va_E)) ∈ eLL q m xs := List.mem_cons_self
/-- cut: the list's own cell, its nodes -/
theorem eLL_cut {q : Nat} {m : Int32} {xs : List (Nat × Nat)} : eLL q m xs = [eO q 13 [.int m, .int (nI xs.length), va_rf (eHd xs none), va_rf (eLst xs none)], eNs none xs none].flatten := by simp [eLL]

set_option maxHeartbeats 4000000 in
theorem m_AbsCol_init_AL {l : Launch} (hl : l.stackTraces = false) (E : eEn) (q : Nat) : eMet l E yJ0_init (ws_ yJ0_init cJ0_init 1 none) ({ frames := 1, cells := 0, slots := 0, locals := 12 }) [.ref q] [eO q 12 [.int 0, .null, .int 0]] (fun v Γ => v = none ∧ Γ = [eO q 12 [.int 0, .null, .int 0]]) := by
  refine eStart (cc := cJ0_init) (nL := 1) (L := [some (.ref q)]) hl (by decide) rfl (List.forall_mem_cons.mpr ⟨rfl, (fun _ h => absurd h List.not_mem_nil)⟩) (Nat.le_of_ble_eq_true rfl) ?_
  intro x rs C
  show eZ x E (eQ x E (fun v Γ => v = none ∧ Γ = [eO q 12 [.int 0, .null, .int 0]]) rs) [eO q 12 [.int 0, .null, .int 0], rs] 0 [some (.ref q)] [] 0 0
  refine z_aload_n C dJ0_init_0 rfl rfl ?_
  refine z_objInit C dJ0_init_1 rfl rfl q118 q99 q100 (Nat.le_of_ble_eq_true rfl) (Nat.le_of_ble_eq_true rfl) ?_
  exact z_vret (Γ := [eO q 12 [.int 0, .null, .int 0]]) C dJ0_init_4 rfl (Nat.le_of_ble_eq_true rfl) (Nat.le_of_ble_eq_true rfl) ⟨rfl, rfl⟩

set_option maxHeartbeats 4000000 in
theorem m_AbsList_init_AL {l : Launch} (hl : l.stackTraces = false) (E : eEn) (q : Nat) : eMet l E yJ1_init (ws_ yJ1_init cJ1_init 1 none) ({ frames := 2, cells := 0, slots := 0, locals := 32 }) [.ref q] [eO q 12 [.int 0, .null, .int 0]] (fun v Γ => v = none ∧ Γ = [eO q 12 [.int 0, .null, .int 0]]) := by
  refine eStart (cc := cJ1_init) (nL := 1) (L := [some (.ref q)]) hl (by decide) rfl (List.forall_mem_cons.mpr ⟨rfl, (fun _ h => absurd h List.not_mem_nil)⟩) (Nat.le_of_ble_eq_true rfl) ?_
  intro x rs C
  show eZ x E (eQ x E (fun v Γ => v = none ∧ Γ = [eO q 12 [.int 0, .null, .int 0]]) rs) [eO q 12 [.int 0, .null, .int 0], rs] 0 [some (.ref q)] [] 0 0
  refine z_aload_n C dJ1_init_0 rfl rfl ?_
  refine z_callI (As := []) (rest := []) (Δ := [rs]) [0] [1] 0 (m_AbsCol_init_AL hl E q) C dJ1_init_1 rfl rfl rfl q115 q116 q51 q117 rfl (by decide +kernel) rfl rfl rfl rfl ⟨Nat.le_of_ble_eq_true rfl, Nat.le_of_ble_eq_true rfl⟩ (Nat.le_trans eS0 (Nat.le_of_ble_eq_true rfl)) ⟨Nat.le_of_ble_eq_true rfl, Nat.le_of_ble_eq_true rfl⟩ (fun v_ Γ_ hp_ => ?_)
  obtain ⟨rfl, rfl⟩ := hp_
  show eZ x E _ [eO q 12 [.int 0, .null, .int 0], rs] 4 [some (.ref q)] [] 0 0
  refine z_aload_n C dJ1_init_4 rfl rfl ?_
  refine z_iconst (v := 0) C dJ1_init_5 (by decide) ?_
  refine z_put eK12 0 0 (Γ2 := [eO q 12 [.int 0, .null, .int 0], rs]) C dJ1_init_6 rfl rfl q125 (eSame1 rfl) (by decide) rfl rfl rfl rfl (Nat.le_of_ble_eq_true rfl) rfl ?_
  exact z_vret (Γ := [eO q 12 [.int 0, .null, .int 0]]) C dJ1_init_9 rfl (Nat.le_of_ble_eq_true rfl) (Nat.le_of_ble_eq_true rfl) ⟨rfl, rfl⟩

set_option maxHeartbeats 4000000 in
theorem m_AbsCol_init_LL {l : Launch} (hl : l.stackTraces = false) (E : eEn) (q : Nat) : eMet l E yJ0_init (ws_ yJ0_init cJ0_init 1 none) ({ frames := 1, cells := 0, slots := 0, locals := 12 }) [.ref q] [eO q 13 [.int 0, .int 0, .null, .null]] (fun v Γ => v = none ∧ Γ = [eO q 13 [.int 0, .int 0, .null, .null]]) := by
  refine eStart (cc := cJ0_init) (nL := 1) (L := [some (.ref q)]) hl (by decide) rfl (List.forall_mem_cons.mpr ⟨rfl, (fun _ h => absurd h List.not_mem_nil)⟩) (Nat.le_of_ble_eq_true rfl) ?_
  intro x rs C
  show eZ x E (eQ x E (fun v Γ => v = none ∧ Γ = [eO q 13 [.int 0, .int 0, .null, .null]]) rs) [eO q 13 [.int 0, .int 0, .null, .null], rs] 0 [some (.ref q)] [] 0 0
  refine z_aload_n C dJ0_init_0 rfl rfl ?_
  refine z_objInit C dJ0_init_1 rfl rfl q118 q99 q100 (Nat.le_of_ble_eq_true rfl) (Nat.le_of_ble_eq_true rfl) ?_
  exact z_vret (Γ := [eO q 13 [.int 0, .int 0, .null, .null]]) C dJ0_init_4 rfl (Nat.le_of_ble_eq_true rfl) (Nat.le_of_ble_eq_true rfl) ⟨rfl, rfl⟩

set_option maxHeartbeats 4000000 in
theorem m_AbsList_init_LL {l : Launch} (hl : l.stackTraces = false) (E : eEn) (q : Nat) : eMet l E yJ1_init (ws_ yJ1_init cJ1_init 1 none) ({ frames := 2, cells := 0, slots := 0, locals := 32 }) [.ref q] [eO q 13 [.int 0, .int 0, .null, .null]] (fun v Γ => v = none ∧ Γ = [eO q 13 [.int 0, .int 0, .null, .null]]) := by
  refine eStart (cc := cJ1_init) (nL := 1) (L := [some (.ref q)]) hl (by decide) rfl (List.forall_mem_cons.mpr ⟨rfl, (fun _ h => absurd h List.not_mem_nil)⟩) (Nat.le_of_ble_eq_true rfl) ?_
  intro x rs C
  show eZ x E (eQ x E (fun v Γ => v = none ∧ Γ = [eO q 13 [.int 0, .int 0, .null, .null]]) rs) [eO q 13 [.int 0, .int 0, .null, .null], rs] 0 [some (.ref q)] [] 0 0
  refine z_aload_n C dJ1_init_0 rfl rfl ?_
  refine z_callI (As := []) (rest := []) (Δ := [rs]) [0] [1] 0 (m_AbsCol_init_LL hl E q) C dJ1_init_1 rfl rfl rfl q115 q116 q51 q117 rfl (by decide +kernel) rfl rfl rfl rfl ⟨Nat.le_of_ble_eq_true rfl, Nat.le_of_ble_eq_true rfl⟩ (Nat.le_trans eS0 (Nat.le_of_ble_eq_true rfl)) ⟨Nat.le_of_ble_eq_true rfl, Nat.le_of_ble_eq_true rfl⟩ (fun v_ Γ_ hp_ => ?_)
  obtain ⟨rfl, rfl⟩ := hp_
  show eZ x E _ [eO q 13 [.int 0, .int 0, .null, .null], rs] 4 [some (.ref q)] [] 0 0
  refine z_aload_n C dJ1_init_4 rfl rfl ?_
  refine z_iconst (v := 0) C dJ1_init_5 (by decide) ?_
  refine z_put eK13 0 0 (Γ2 := [eO q 13 [.int 0, .int 0, .null, .null], rs]) C dJ1_init_6 rfl rfl q125 (eSame1 rfl) (by decide) rfl rfl rfl rfl (Nat.le_of_ble_eq_true rfl) rfl ?_
  exact z_vret (Γ := [eO q 13 [.int 0, .int 0, .null, .null]]) C dJ1_init_9 rfl (Nat.le_of_ble_eq_true rfl) (Nat.le_of_ble_eq_true rfl) ⟨rfl, rfl⟩

set_option maxHeartbeats 4000000 in
theorem m_AbsSeq_init {l : Launch} (hl : l.stackTraces = false) (E : eEn) (q : Nat) : eMet l E yJ3_init (ws_ yJ3_init cJ3_init 1 none) ({ frames := 3, cells := 0, slots := 0, locals := 52 }) [.ref q] [eO q 13 [.int 0, .int 0, .null, .null]] (fun v Γ => v = none ∧ Γ = [eO q 13 [.int 0, .int 0, .null, .null]]) := by
  refine eStart (cc := cJ3_init) (nL := 1) (L := [some (.ref q)]) hl (by decide) rfl (List.forall_mem_cons.mpr ⟨rfl, (fun _ h => absurd h List.not_mem_nil)⟩) (Nat.le_of_ble_eq_true rfl) ?_
  intro x rs C
  show eZ x E (eQ x E (fun v Γ => v = none ∧ Γ = [eO q 13 [.int 0, .int 0, .null, .null]]) rs) [eO q 13 [.int 0, .int 0, .null, .null], rs] 0 [some (.ref q)] [] 0 0
  refine z_aload_n C dJ3_init_0 rfl rfl ?_
  refine z_callI (As := []) (rest := []) (Δ := [rs]) [0] [1] 0 (m_AbsList_init_LL hl E q) C dJ3_init_1 rfl rfl rfl q149 q113 q52 q114 rfl (by decide +kernel) rfl rfl rfl rfl ⟨Nat.le_of_ble_eq_true rfl, Nat.le_of_ble_eq_true rfl⟩ (Nat.le_trans eS0 (Nat.le_of_ble_eq_true rfl)) ⟨Nat.le_of_ble_eq_true rfl, Nat.le_of_ble_eq_true rfl⟩ (fun v_ Γ_ hp_ => ?_)
  obtain ⟨rfl, rfl⟩ := hp_
  show eZ x E _ [eO q 13 [.int 0, .int 0, .null, .null], rs] 4 [some (.ref q)] [] 0 0
  exact z_vret (Γ := [eO q 13 [.int 0, .int 0, .null, .null]]) C dJ3_init_4 rfl (Nat.le_of_ble_eq_true rfl) (Nat.le_of_ble_eq_true rfl) ⟨rfl, rfl⟩

set_option maxHeartbeats 4000000 in
theorem m_LL_init {l : Launch} (hl : l.stackTraces = false) (E : eEn) (q : Nat) : eMet l E yJ4_init (ws_ yJ4_init cJ4_init 1 none) ({ frames := 4, cells := 0, slots := 0, locals := 72 }) [.ref q] [eO q 13 [.int 0, .int 0, .null, .null]] (fun v Γ => v = none ∧ Γ = [eLL q 0 []]) := by
  refine eStart (cc := cJ4_init) (nL := 1) (L := [some (.ref q)]) hl (by decide) rfl (List.forall_mem_cons.mpr ⟨rfl, (fun _ h => absurd h List.not_mem_nil)⟩) (Nat.le_of_ble_eq_true rfl) ?_
  intro x rs C
  show eZ x E (eQ x E (fun v Γ => v = none ∧ Γ = [eLL q 0 []]) rs) [eO q 13 [.int 0, .int 0, .null, .null], rs] 0 [some (.ref q)] [] 0 0
  refine z_aload_n C dJ4_init_0 rfl rfl ?_
  refine z_callI (As := []) (rest := []) (Δ := [rs]) [0] [1] 0 (m_AbsSeq_init hl E q) C dJ4_init_1 rfl rfl rfl q146 q147 q54 q148 rfl (by decide +kernel) rfl rfl rfl rfl ⟨Nat.le_of_ble_eq_true rfl, Nat.le_of_ble_eq_true rfl⟩ (Nat.le_trans eS0 (Nat.le_of_ble_eq_true rfl)) ⟨Nat.le_of_ble_eq_true rfl, Nat.le_of_ble_eq_true rfl⟩ (fun v_ Γ_ hp_ => ?_)
  obtain ⟨rfl, rfl⟩ := hp_
  show eZ x E _ [eO q 13 [.int 0, .int 0, .null, .null], rs] 4 [some (.ref q)] [] 0 0
  refine z_aload_n C dJ4_init_4 rfl rfl ?_
  refine z_iconst (v := 0) C dJ4_init_5 (by decide) ?_
  refine z_put eK13 0 1 (Γ2 := [eO q 13 [.int 0, .int 0, .null, .null], rs]) C dJ4_init_6 rfl rfl q150 (eSame1 rfl) (by decide) rfl rfl rfl rfl (Nat.le_of_ble_eq_true rfl) rfl ?_
  exact z_vret (Γ := [eO q 13 [.int 0, .int 0, .null, .null]]) C dJ4_init_9 rfl (Nat.le_of_ble_eq_true rfl) (Nat.le_of_ble_eq_true rfl) ⟨rfl, rfl⟩

set_option maxHeartbeats 4000000 in
theorem m_Node_init {l : Launch} (hl : l.stackTraces = false) (E : eEn) (a i : Nat) (p nx : Option Nat) : eMet l E yJ24_init (ws_ yJ24_init cJ24_init 4 none) ({ frames := 1, cells := 0, slots := 0, locals := 12 }) [.ref a, va_rf p, .ref i, va_rf nx] [eO a 14 [.null, .null, .null]] (fun v Γ => v = none ∧ Γ = [eO a 14 [.ref i, va_rf nx, va_rf p]]) := by
  refine eStart (cc := cJ24_init) (nL := 4) (L := [some (.ref a), some (va_rf p), some (.ref i), some (va_rf nx)]) hl (by decide) rfl (List.forall_mem_cons.mpr ⟨rfl, (List.forall_mem_cons.mpr ⟨(e_catR _), (List.forall_mem_cons.mpr ⟨rfl, (List.forall_mem_cons.mpr ⟨(e_catR _), (fun _ h => absurd h List.not_mem_nil)⟩)⟩)⟩)⟩) (Nat.le_of_ble_eq_true rfl) ?_
  intro x rs C
  show eZ x E (eQ x E (fun v Γ => v = none ∧ Γ = [eO a 14 [.ref i, va_rf nx, va_rf p]]) rs) [eO a 14 [.null, .null, .null], rs] 0 [some (.ref a), some (va_rf p), some (.ref i), some (va_rf nx)] [] 0 0
  refine z_aload_n C dJ24_init_0 rfl rfl ?_
  refine z_objInit C dJ24_init_1 rfl rfl q951 q99 q100 (Nat.le_of_ble_eq_true rfl) (Nat.le_of_ble_eq_true rfl) ?_
  refine z_aload_n C dJ24_init_4 rfl rfl ?_
  refine z_aload_n C dJ24_init_5 rfl rfl ?_
  refine z_put eK14 0 0 (Γ2 := [eO a 14 [.ref i, .null, .null], rs]) C dJ24_init_6 rfl rfl q952 (eSame1 rfl) (by decide) rfl rfl rfl rfl (Nat.le_of_ble_eq_true rfl) rfl ?_
  refine z_aload_n C dJ24_init_9 rfl rfl ?_
  refine z_aload_nR C dJ24_init_10 rfl rfl ?_
  refine z_put eK14 0 1 (Γ2 := [eO a 14 [.ref i, va_rf nx, .null], rs]) C dJ24_init_11 rfl rfl q955 (eSame1 rfl) (by decide) rfl rfl (e_narR _ _) (e_fitR _ _) (Nat.le_of_ble_eq_true rfl) rfl ?_
  refine z_aload_n C dJ24_init_14 rfl rfl ?_
  refine z_aload_nR C dJ24_init_15 rfl rfl ?_
  refine z_put eK14 0 2 (Γ2 := [eO a 14 [.ref i, va_rf nx, va_rf p], rs]) C dJ24_init_16 rfl rfl q958 (eSame1 rfl) (by decide) rfl rfl (e_narR _ _) (e_fitR _ _) (Nat.le_of_ble_eq_true rfl) rfl ?_
  exact z_vret (Γ := [eO a 14 [.ref i, va_rf nx, va_rf p]]) C dJ24_init_19 rfl (Nat.le_of_ble_eq_true rfl) (Nat.le_of_ble_eq_true rfl) ⟨rfl, rfl⟩

set_option maxHeartbeats 4000000 in
theorem m_LL_linkLast {l : Launch} (hl : l.stackTraces = false) (E : eEn) (q i : Nat) (m : Int32) (xs : List (Nat × Nat)) : eMet l E yJ4_linkLast (ws_ yJ4_linkLast cJ4_linkLast 4 none) ({ frames := 2, cells := 1, slots := 3, locals := 35 }) [.ref q, .ref i] [eLL q m xs] (fun v Γ => v = none ∧ ∃ a, Γ = [eLL q (m + 1) (xs ++ [(a, i)])]) := by
  refine eStart (cc := cJ4_linkLast) (nL := 4) (L := [some (.ref q), some (.ref i), none, none]) hl (by decide) rfl (List.forall_mem_cons.mpr ⟨rfl, (List.forall_mem_cons.mpr ⟨rfl, (fun _ h => absurd h List.not_mem_nil)⟩)⟩) (Nat.le_of_ble_eq_true rfl) ?_
  intro x rs C
  show eZ x E (eQ x E (fun v Γ => v = none ∧ ∃ a, Γ = [eLL q (m + 1) (xs ++ [(a, i)])]) rs) [eLL q m xs, rs] 0 [some (.ref q), some (.ref i), none, none] [] 0 0
  rcases List.eq_nil_or_concat xs with rfl | ⟨ys, ⟨b, j⟩, rfl⟩
  · show eZ x E _ [eO q 13 [.int m, .int (nI 0), va_rf none, va_rf none], rs] 0 [some (.ref q), some (.ref i), none, none] [] 0 0
    refine z_aload_n C dJ4_linkLast_0 rfl rfl ?_
    refine z_get eK13 0 3 C dJ4_linkLast_1 rfl rfl q153 (eSame1 rfl) (by decide) rfl ?_
    refine z_astore_nR (r := none) (L2 := [some (.ref q), some (.ref i), some (.null), none]) C dJ4_linkLast_4 rfl (Nat.le_of_ble_eq_true rfl) rfl ?_
    refine z_new (fs := [.null, .null, .null]) eK14 C dJ4_linkLast_5 rfl q946 q947 q81 rfl (Nat.le_of_ble_eq_true rfl) (Nat.le_of_ble_eq_true rfl) (fun o1 => ?_)
    show eZ x E _ [eO q 13 [.int m, .int (nI 0), va_rf none, va_rf none], rs, eO o1 14 [.null, .null, .null]] 8 [some (.ref q), some (.ref i), some (.null), none] [.ref o1] 1 3
    refine z_dup C dJ4_linkLast_8 rfl ?_
    refine z_aload_nR (r := none) C dJ4_linkLast_9 rfl rfl ?_
    refine z_aload_n C dJ4_linkLast_10 rfl rfl ?_
    refine z_null C dJ4_linkLast_11 ?_
    refine z_callI (As := [.null, .ref i, .null]) (rest := [.ref o1]) (Δ := [eO q 13 [.int m, .int (nI 0), va_rf none, va_rf none], rs]) [2] [0, 1] 3 (m_Node_init hl E o1 i none none) C dJ4_linkLast_12 rfl rfl rfl q948 q949 q81 q950 rfl (by decide +kernel) rfl rfl rfl rfl ⟨Nat.le_of_ble_eq_true rfl, Nat.le_of_ble_eq_true rfl⟩ (Nat.le_trans (eSm rfl eS0) (Nat.le_of_ble_eq_true rfl)) ⟨Nat.le_of_ble_eq_true rfl, Nat.le_of_ble_eq_true rfl⟩ (fun v_ Γ_ hp_ => ?_)
    obtain ⟨rfl, rfl⟩ := hp_
    show eZ x E _ [eO o1 14 [.ref i, va_rf none, va_rf none], eO q 13 [.int m, .int (nI 0), va_rf none, va_rf none], rs] 15 [some (.ref q), some (.ref i), some (.null), none] [.ref o1] 1 3
    refine z_astore_n (L2 := [some (.ref q), some (.ref i), some (.null), some (.ref o1)]) C dJ4_linkLast_15 rfl (Nat.le_of_ble_eq_true rfl) rfl ?_
    refine z_aload_n C dJ4_linkLast_16 rfl rfl ?_
    refine z_aload_n C dJ4_linkLast_17 rfl rfl ?_
    refine z_put eK13 1 3 (Γ2 := [eO o1 14 [.ref i, va_rf none, va_rf none], eO q 13 [.int m, .int (nI 0), va_rf none, .ref o1], rs]) C dJ4_linkLast_18 rfl rfl q153 (eSame1 rfl) (by decide) rfl rfl rfl rfl (Nat.le_of_ble_eq_true rfl) rfl ?_
    refine z_aload_nR (r := none) C dJ4_linkLast_21 rfl rfl ?_
    refine z_ifnonnull (r := none) 33 C dJ4_linkLast_22 (by decide) (fun nn_ _h1 => ?_) (fun _h1 => ?_)
    · cases _h1
    · refine z_aload_n C dJ4_linkLast_25 rfl rfl ?_
      refine z_aload_n C dJ4_linkLast_26 rfl rfl ?_
      refine z_put eK13 1 2 (Γ2 := [eO o1 14 [.ref i, va_rf none, va_rf none], eO q 13 [.int m, .int (nI 0), .ref o1, .ref o1], rs]) C dJ4_linkLast_27 rfl rfl q152 (eSame1 rfl) (by decide) rfl rfl rfl rfl (Nat.le_of_ble_eq_true rfl) rfl ?_
      refine z_goto 38 C dJ4_linkLast_30 (by decide) ?_
      refine z_aload_n C dJ4_linkLast_38 rfl rfl ?_
      refine z_dup C dJ4_linkLast_39 rfl ?_
      refine z_get eK13 1 1 C dJ4_linkLast_40 rfl rfl q150 (eSame1 rfl) (by decide) rfl ?_
      refine z_iconst (v := 1) C dJ4_linkLast_43 (by decide) ?_
      refine z_iadd (w := (nI 0) + 1) C dJ4_linkLast_44 rfl ?_
      refine z_put eK13 1 1 (Γ2 := [eO o1 14 [.ref i, va_rf none, va_rf none], eO q 13 [.int m, .int ((nI 0) + 1), .ref o1, .ref o1], rs]) C dJ4_linkLast_45 rfl rfl q150 (eSame1 rfl) (by decide) rfl rfl rfl rfl (Nat.le_of_ble_eq_true rfl) rfl ?_
      refine z_aload_n C dJ4_linkLast_48 rfl rfl ?_
      refine z_dup C dJ4_linkLast_49 rfl ?_
      refine z_get eK13 1 0 C dJ4_linkLast_50 rfl rfl q131 (eSame2 C q127) (by decide) rfl ?_
      refine z_iconst (v := 1) C dJ4_linkLast_53 (by decide) ?_
      refine z_iadd (w := m + 1) C dJ4_linkLast_54 rfl ?_
      refine z_put eK13 1 0 (Γ2 := [eO o1 14 [.ref i, va_rf none, va_rf none], eO q 13 [.int (m + 1), .int ((nI 0) + 1), .ref o1, .ref o1], rs]) C dJ4_linkLast_55 rfl rfl q131 (eSame2 C q127) (by decide) rfl rfl rfl rfl (Nat.le_of_ble_eq_true rfl) rfl ?_
      refine z_pick (Γ' := [eO q 13 [.int (m + 1), .int ((nI 0) + 1), .ref o1, .ref o1], eO o1 14 [.ref i, va_rf none, va_rf none], rs]) [1, 0, 2] rfl rfl ?_
      refine z_eq (Γ' := [eLL q (m + 1) ([(o1, i)]), rs]) (by simp [eLL, eNs_app, eLst_app, eHd_app, eNs_nil, eNs_cons, eHd_nil, eHd_cons, eLst_nil, eLst_cons, e_rfs, e_rfn, ← nI_succ]) ?_
      exact z_vret (Γ := [eLL q (m + 1) ([(o1, i)])]) C dJ4_linkLast_58 rfl (Nat.le_of_ble_eq_true rfl) (Nat.le_of_ble_eq_true rfl) ⟨rfl, o1, by simp⟩
  · rw [List.concat_eq_append]
    refine z_cut 0 (bs := [eO q 13 [.int m, .int (nI (ys ++ [(b, j)]).length), va_rf (eHd (ys ++ [(b, j)]) none), va_rf (some b)], eNs none ys (some b), eO b 14 [.ref j, va_rf none, va_rf (eLst ys none)]]) rfl (by simp [eLL, eNs_app, eLst_app, eHd_app, eNs_nil, eNs_cons, eHd_nil, eHd_cons, eLst_nil, eLst_cons, e_rfs, e_rfn, ← nI_succ]) rfl ?_
    show eZ x E _ [eO q 13 [.int m, .int (nI (ys ++ [(b, j)]).length), va_rf (eHd (ys ++ [(b, j)]) none), va_rf (some b)], eNs none ys (some b), eO b 14 [.ref j, va_rf none, va_rf (eLst ys none)], rs] 0 [some (.ref q), some (.ref i), none, none] [] 0 0
    refine z_aload_n C dJ4_linkLast_0 rfl rfl ?_
    refine z_get eK13 0 3 C dJ4_linkLast_1 rfl rfl q153 (eSame1 rfl) (by decide) rfl ?_
    refine z_astore_n (L2 := [some (.ref q), some (.ref i), some (.ref b), none]) C dJ4_linkLast_4 rfl (Nat.le_of_ble_eq_true rfl) rfl ?_
    refine z_new (fs := [.null, .null, .null]) eK14 C dJ4_linkLast_5 rfl q946 q947 q81 rfl (Nat.le_of_ble_eq_true rfl) (Nat.le_of_ble_eq_true rfl) (fun o2 => ?_)
    show eZ x E _ [eO q 13 [.int m, .int (nI (ys ++ [(b, j)]).length), va_rf (eHd (ys ++ [(b, j)]) none), va_rf (some b)], eNs none ys (some b), eO b 14 [.ref j, va_rf none, va_rf (eLst ys none)], rs, eO o2 14 [.null, .null, .null]] 8 [some (.ref q), some (.ref i), some (.ref b), none] [.ref o2] 1 3
    refine z_dup C dJ4_linkLast_8 rfl ?_
    refine z_aload_n C dJ4_linkLast_9 rfl rfl ?_
    refine z_aload_n C dJ4_linkLast_10 rfl rfl ?_
    refine z_null C dJ4_linkLast_11 ?_
    refine z_callI (As := [.ref b, .ref i, .null]) (rest := [.ref o2]) (Δ := [eO q 13 [.int m, .int (nI (ys ++ [(b, j)]).length), va_rf (eHd (ys ++ [(b, j)]) none), va_rf (some b)], eNs none ys (some b), eO b 14 [.ref j, va_rf none, va_rf (eLst ys none)], rs]) [4] [0, 1, 2, 3] 3 (m_Node_init hl E o2 i (some b) none) C dJ4_linkLast_12 rfl rfl rfl q948 q949 q81 q950 rfl (by decide +kernel) rfl rfl rfl rfl ⟨Nat.le_of_ble_eq_true rfl, Nat.le_of_ble_eq_true rfl⟩ (Nat.le_trans (eSm rfl eS0) (Nat.le_of_ble_eq_true rfl)) ⟨Nat.le_of_ble_eq_true rfl, Nat.le_of_ble_eq_true rfl⟩ (fun v_ Γ_ hp_ => ?_)
    obtain ⟨rfl, rfl⟩ := hp_
    show eZ x E _ [eO o2 14 [.ref i, va_rf none, va_rf (some b)], eO q 13 [.int m, .int (nI (ys ++ [(b, j)]).length), va_rf (eHd (ys ++ [(b, j)]) none), va_rf (some b)], eNs none ys (some b), eO b 14 [.ref j, va_rf none, va_rf (eLst ys none)], rs] 15 [some (.ref q), some (.ref i), some (.ref b), none] [.ref o2] 1 3
    refine z_astore_n (L2 := [some (.ref q), some (.ref i), some (.ref b), some (.ref o2)]) C dJ4_linkLast_15 rfl (Nat.le_of_ble_eq_true rfl) rfl ?_
    refine z_aload_n C dJ4_linkLast_16 rfl rfl ?_
    refine z_aload_n C dJ4_linkLast_17 rfl rfl ?_
    refine z_put eK13 1 3 (Γ2 := [eO o2 14 [.ref i, va_rf none, va_rf (some b)], eO q 13 [.int m, .int (nI (ys ++ [(b, j)]).length), va_rf (eHd (ys ++ [(b, j)]) none), .ref o2], eNs none ys (some b), eO b 14 [.ref j, va_rf none, va_rf (eLst ys none)], rs]) C dJ4_linkLast_18 rfl rfl q153 (eSame1 rfl) (by decide) rfl rfl rfl rfl (Nat.le_of_ble_eq_true rfl) rfl ?_
    refine z_aload_n C dJ4_linkLast_21 rfl rfl ?_
    refine z_ifnonnull (r := some b) 33 C dJ4_linkLast_22 (by decide) (fun nn_ _h1 => ?_) (fun _h1 => ?_)
    · refine z_aload_n C dJ4_linkLast_33 rfl rfl ?_
      refine z_aload_n C dJ4_linkLast_34 rfl rfl ?_
      refine z_put eK14 3 1 (Γ2 := [eO o2 14 [.ref i, va_rf none, va_rf (some b)], eO q 13 [.int m, .int (nI (ys ++ [(b, j)]).length), va_rf (eHd (ys ++ [(b, j)]) none), .ref o2], eNs none ys (some b), eO b 14 [.ref j, .ref o2, va_rf (eLst ys none)], rs]) C dJ4_linkLast_35 rfl rfl q957 (eSame1 rfl) (by decide) rfl rfl rfl rfl (Nat.le_of_ble_eq_true rfl) rfl ?_
      refine z_aload_n C dJ4_linkLast_38 rfl rfl ?_
      refine z_dup C dJ4_linkLast_39 rfl ?_
      refine z_get eK13 1 1 C dJ4_linkLast_40 rfl rfl q150 (eSame1 rfl) (by decide) rfl ?_
      refine z_iconst (v := 1) C dJ4_linkLast_43 (by decide) ?_
      refine z_iadd (w := (nI (ys ++ [(b, j)]).length) + 1) C dJ4_linkLast_44 rfl ?_
      refine z_put eK13 1 1 (Γ2 := [eO o2 14 [.ref i, va_rf none, va_rf (some b)], eO q 13 [.int m, .int ((nI (ys ++ [(b, j)]).length) + 1), va_rf (eHd (ys ++ [(b, j)]) none), .ref o2], eNs none ys (some b), eO b 14 [.ref j, .ref o2, va_rf (eLst ys none)], rs]) C dJ4_linkLast_45 rfl rfl q150 (eSame1 rfl) (by decide) rfl rfl rfl rfl (Nat.le_of_ble_eq_true rfl) rfl ?_
      refine z_aload_n C dJ4_linkLast_48 rfl rfl ?_
      refine z_dup C dJ4_linkLast_49 rfl ?_
      refine z_get eK13 1 0 C dJ4_linkLast_50 rfl rfl q131 (eSame2 C q127) (by decide) rfl ?_
      refine z_iconst (v := 1) C dJ4_linkLast_53 (by decide) ?_
      refine z_iadd (w := m + 1) C dJ4_linkLast_54 rfl ?_
      refine z_put eK13 1 0 (Γ2 := [eO o2 14 [.ref i, va_rf none, va_rf (some b)], eO q 13 [.int (m + 1), .int ((nI (ys ++ [(b, j)]).length) + 1), va_rf (eHd (ys ++ [(b, j)]) none), .ref o2], eNs none ys (some b), eO b 14 [.ref j, .ref o2, va_rf (eLst ys none)], rs]) C dJ4_linkLast_55 rfl rfl q131 (eSame2 C q127) (by decide) rfl rfl rfl rfl (Nat.le_of_ble_eq_true rfl) rfl ?_
      refine z_pick (Γ' := [eO q 13 [.int (m + 1), .int ((nI (ys ++ [(b, j)]).length) + 1), va_rf (eHd (ys ++ [(b, j)]) none), .ref o2], eNs none ys (some b), eO b 14 [.ref j, .ref o2, va_rf (eLst ys none)], eO o2 14 [.ref i, va_rf none, va_rf (some b)], rs]) [1, 2, 3, 0, 4] rfl rfl ?_
      refine z_eq (Γ' := [eLL q (m + 1) ((ys ++ [(b, j)]) ++ [(o2, i)]), rs]) (by simp [eLL, eNs_app, eLst_app, eHd_app, eNs_nil, eNs_cons, eHd_nil, eHd_cons, eLst_nil, eLst_cons, e_rfs, e_rfn, ← nI_succ]) ?_
      exact z_vret (Γ := [eLL q (m + 1) ((ys ++ [(b, j)]) ++ [(o2, i)])]) C dJ4_linkLast_58 rfl (Nat.le_of_ble_eq_true rfl) (Nat.le_of_ble_eq_true rfl) ⟨rfl, o2, by simp⟩
    · cases _h1

set_option maxHeartbeats 4000000 in
theorem m_LL_addLast {l : Launch} (hl : l.stackTraces = false) (E : eEn) (q i : Nat) (m : Int32) (xs : List (Nat × Nat)) : eMet l E yJ4_addLast (ws_ yJ4_addLast cJ4_addLast 2 none) ({ frames := 3, cells := 1, slots := 3, locals := 58 }) [.ref q, .ref i] [eLL q m xs] (fun v Γ => v = none ∧ ∃ a, Γ = [eLL q (m + 1) (xs ++ [(a, i)])]) := by
  refine eStart (cc := cJ4_addLast) (nL := 2) (L := [some (.ref q), some (.ref i)]) hl (by decide) rfl (List.forall_mem_cons.mpr ⟨rfl, (List.forall_mem_cons.mpr ⟨rfl, (fun _ h => absurd h List.not_mem_nil)⟩)⟩) (Nat.le_of_ble_eq_true rfl) ?_
  intro x rs C
  show eZ x E (eQ x E (fun v Γ => v = none ∧ ∃ a, Γ = [eLL q (m + 1) (xs ++ [(a, i)])]) rs) [eLL q m xs, rs] 0 [some (.ref q), some (.ref i)] [] 0 0
  refine z_aload_n C dJ4_addLast_0 rfl rfl ?_
  refine z_aload_n C dJ4_addLast_1 rfl rfl ?_
  refine z_callV (r := (RJ4, TJ4, 4)) (As := [.ref i]) (rest := []) (Δ := [rs]) [0] [1] 1 (m_LL_linkLast hl E q i m xs) C dJ4_addLast_2 rfl rfl (eIn (i := 0) rfl eLL_mem) rfl rfl q942 q943 q944 q55 q945 (by decide +kernel) rfl rfl rfl rfl ⟨Nat.le_of_ble_eq_true rfl, Nat.le_of_ble_eq_true rfl⟩ (Nat.le_trans eS0 (Nat.le_of_ble_eq_true rfl)) ⟨Nat.le_of_ble_eq_true rfl, Nat.le_of_ble_eq_true rfl⟩ (fun v_ Γ_ hp_ => ?_)
  obtain ⟨rfl, a, rfl⟩ := hp_
  show eZ x E _ [eLL q (m + 1) (xs ++ [(a, i)]), rs] 5 [some (.ref q), some (.ref i)] [] 1 3
  exact z_vret (Γ := [eLL q (m + 1) (xs ++ [(a, i)])]) C dJ4_addLast_5 rfl (Nat.le_of_ble_eq_true rfl) (Nat.le_of_ble_eq_true rfl) ⟨rfl, a, rfl⟩

set_option maxHeartbeats 4000000 in
theorem m_LL_linkFirst {l : Launch} (hl : l.stackTraces = false) (E : eEn) (q i : Nat) (m : Int32) (xs : List (Nat × Nat)) : eMet l E yJ4_linkFirst (ws_ yJ4_linkFirst cJ4_linkFirst 4 none) ({ frames := 2, cells := 1, slots := 3, locals := 35 }) [.ref q, .ref i] [eLL q m xs] (fun v Γ => v = none ∧ ∃ a, Γ = [eLL q (m + 1) ((a, i) :: xs)]) := by
  refine eStart (cc := cJ4_linkFirst) (nL := 4) (L := [some (.ref q), some (.ref i), none, none]) hl (by decide) rfl (List.forall_mem_cons.mpr ⟨rfl, (List.forall_mem_cons.mpr ⟨rfl, (fun _ h => absurd h List.not_mem_nil)⟩)⟩) (Nat.le_of_ble_eq_true rfl) ?_
  intro x rs C
  show eZ x E (eQ x E (fun v Γ => v = none ∧ ∃ a, Γ = [eLL q (m + 1) ((a, i) :: xs)]) rs) [eLL q m xs, rs] 0 [some (.ref q), some (.ref i), none, none] [] 0 0
  rcases xs with _ | ⟨⟨b, j⟩, ys⟩
  · show eZ x E _ [eO q 13 [.int m, .int (nI 0), va_rf none, va_rf none], rs] 0 [some (.ref q), some (.ref i), none, none] [] 0 0
    refine z_aload_n C dJ4_linkFirst_0 rfl rfl ?_
    refine z_get eK13 0 2 C dJ4_linkFirst_1 rfl rfl q152 (eSame1 rfl) (by decide) rfl ?_
    refine z_astore_nR (r := none) (L2 := [some (.ref q), some (.ref i), some (.null), none]) C dJ4_linkFirst_4 rfl (Nat.le_of_ble_eq_true rfl) rfl ?_
    refine z_new (fs := [.null, .null, .null]) eK14 C dJ4_linkFirst_5 rfl q946 q947 q81 rfl (Nat.le_of_ble_eq_true rfl) (Nat.le_of_ble_eq_true rfl) (fun o1 => ?_)
    show eZ x E _ [eO q 13 [.int m, .int (nI 0), va_rf none, va_rf none], rs, eO o1 14 [.null, .null, .null]] 8 [some (.ref q), some (.ref i), some (.null), none] [.ref o1] 1 3
    refine z_dup C dJ4_linkFirst_8 rfl ?_
    refine z_null C dJ4_linkFirst_9 ?_
    refine z_aload_n C dJ4_linkFirst_10 rfl rfl ?_
    refine z_aload_nR (r := none) C dJ4_linkFirst_11 rfl rfl ?_
    refine z_callI (As := [.null, .ref i, .null]) (rest := [.ref o1]) (Δ := [eO q 13 [.int m, .int (nI 0), va_rf none, va_rf none], rs]) [2] [0, 1] 3 (m_Node_init hl E o1 i none none) C dJ4_linkFirst_12 rfl rfl rfl q948 q949 q81 q950 rfl (by decide +kernel) rfl rfl rfl rfl ⟨Nat.le_of_ble_eq_true rfl, Nat.le_of_ble_eq_true rfl⟩ (Nat.le_trans (eSm rfl eS0) (Nat.le_of_ble_eq_true rfl)) ⟨Nat.le_of_ble_eq_true rfl, Nat.le_of_ble_eq_true rfl⟩ (fun v_ Γ_ hp_ => ?_)
    obtain ⟨rfl, rfl⟩ := hp_
    show eZ x E _ [eO o1 14 [.ref i, va_rf none, va_rf none], eO q 13 [.int m, .int (nI 0), va_rf none, va_rf none], rs] 15 [some (.ref q), some (.ref i), some (.null), none] [.ref o1] 1 3
    refine z_astore_n (L2 := [some (.ref q), some (.ref i), some (.null), some (.ref o1)]) C dJ4_linkFirst_15 rfl (Nat.le_of_ble_eq_true rfl) rfl ?_
    refine z_aload_n C dJ4_linkFirst_16 rfl rfl ?_
    refine z_aload_n C dJ4_linkFirst_17 rfl rfl ?_
    refine z_put eK13 1 2 (Γ2 := [eO o1 14 [.ref i, va_rf none, va_rf none], eO q 13 [.int m, .int (nI 0), .ref o1, va_rf none], rs]) C dJ4_linkFirst_18 rfl rfl q152 (eSame1 rfl) (by decide) rfl rfl rfl rfl (Nat.le_of_ble_eq_true rfl) rfl ?_
    refine z_aload_nR (r := none) C dJ4_linkFirst_21 rfl rfl ?_
    refine z_ifnonnull (r := none) 33 C dJ4_linkFirst_22 (by decide) (fun nn_ _h1 => ?_) (fun _h1 => ?_)
    · cases _h1
    · refine z_aload_n C dJ4_linkFirst_25 rfl rfl ?_
      refine z_aload_n C dJ4_linkFirst_26 rfl rfl ?_
      refine z_put eK13 1 3 (Γ2 := [eO o1 14 [.ref i, va_rf none, va_rf none], eO q 13 [.int m, .int (nI 0), .ref o1, .ref o1], rs]) C dJ4_linkFirst_27 rfl rfl q153 (eSame1 rfl) (by decide) rfl rfl rfl rfl (Nat.le_of_ble_eq_true rfl) rfl ?_
      refine z_goto 38 C dJ4_linkFirst_30 (by decide) ?_
      refine z_aload_n C dJ4_linkFirst_38 rfl rfl ?_
      refine z_dup C dJ4_linkFirst_39 rfl ?_
      refine z_get eK13 1 1 C dJ4_linkFirst_40 rfl rfl q150 (eSame1 rfl) (by decide) rfl ?_
      refine z_iconst (v := 1) C dJ4_linkFirst_43 (by decide) ?_
      refine z_iadd (w := (nI 0) + 1) C dJ4_linkFirst_44 rfl ?_
      refine z_put eK13 1 1 (Γ2 := [eO o1 14 [.ref i, va_rf none, va_rf none], eO q 13 [.int m, .int ((nI 0) + 1), .ref o1, .ref o1], rs]) C dJ4_linkFirst_45 rfl rfl q150 (eSame1 rfl) (by decide) rfl rfl rfl rfl (Nat.le_of_ble_eq_true rfl) rfl ?_
      refine z_aload_n C dJ4_linkFirst_48 rfl rfl ?_
      refine z_dup C dJ4_linkFirst_49 rfl ?_
      refine z_get eK13 1 0 C dJ4_linkFirst_50 rfl rfl q131 (eSame2 C q127) (by decide) rfl ?_
      refine z_iconst (v := 1) C dJ4_linkFirst_53 (by decide) ?_
      refine z_iadd (w := m + 1) C dJ4_linkFirst_54 rfl ?_
      refine z_put eK13 1 0 (Γ2 := [eO o1 14 [.ref i, va_rf none, va_rf none], eO q 13 [.int (m + 1), .int ((nI 0) + 1), .ref o1, .ref o1], rs]) C dJ4_linkFirst_55 rfl rfl q131 (eSame2 C q127) (by decide) rfl rfl rfl rfl (Nat.le_of_ble_eq_true rfl) rfl ?_
      refine z_pick (Γ' := [eO q 13 [.int (m + 1), .int ((nI 0) + 1), .ref o1, .ref o1], eO o1 14 [.ref i, va_rf none, va_rf none], rs]) [1, 0, 2] rfl rfl ?_
      refine z_join 2 (b := eLL q (m + 1) ((o1, i) :: [])) (by simp [eLL, eNs_app, eLst_app, eHd_app, eNs_nil, eNs_cons, eHd_nil, eHd_cons, eLst_nil, eLst_cons, e_rfs, e_rfn, ← nI_succ]) rfl ?_
      show eZ x E _ [eLL q (m + 1) ((o1, i) :: []), rs] 58 [some (.ref q), some (.ref i), some (.null), some (.ref o1)] [] 1 3
      exact z_vret (Γ := [eLL q (m + 1) ((o1, i) :: [])]) C dJ4_linkFirst_58 rfl (Nat.le_of_ble_eq_true rfl) (Nat.le_of_ble_eq_true rfl) ⟨rfl, o1, rfl⟩
  · refine z_cut 0 (bs := [eO q 13 [.int m, .int (nI (ys.length + 1)), va_rf (some b), va_rf (eLst ys (some b))], eO b 14 [.ref j, va_rf (eHd ys none), va_rf none], eNs (some b) ys none]) rfl (by simp [eLL, eNs_app, eLst_app, eHd_app, eNs_nil, eNs_cons, eHd_nil, eHd_cons, eLst_nil, eLst_cons, e_rfs, e_rfn]) rfl ?_
    show eZ x E _ [eO q 13 [.int m, .int (nI (ys.length + 1)), va_rf (some b), va_rf (eLst ys (some b))], eO b 14 [.ref j, va_rf (eHd ys none), va_rf none], eNs (some b) ys none, rs] 0 [some (.ref q), some (.ref i), none, none] [] 0 0
    refine z_aload_n C dJ4_linkFirst_0 rfl rfl ?_
    refine z_get eK13 0 2 C dJ4_linkFirst_1 rfl rfl q152 (eSame1 rfl) (by decide) rfl ?_
    refine z_astore_n (L2 := [some (.ref q), some (.ref i), some (.ref b), none]) C dJ4_linkFirst_4 rfl (Nat.le_of_ble_eq_true rfl) rfl ?_
    refine z_new (fs := [.null, .null, .null]) eK14 C dJ4_linkFirst_5 rfl q946 q947 q81 rfl (Nat.le_of_ble_eq_true rfl) (Nat.le_of_ble_eq_true rfl) (fun o2 => ?_)
    show eZ x E _ [eO q 13 [.int m, .int (nI (ys.length + 1)), va_rf (some b), va_rf (eLst ys (some b))], eO b 14 [.ref j, va_rf (eHd ys none), va_rf none], eNs (some b) ys none, rs, eO o2 14 [.null, .null, .null]] 8 [some (.ref q), some (.ref i), some (.ref b), none] [.ref o2] 1 3
    refine z_dup C dJ4_linkFirst_8 rfl ?_
    refine z_null C dJ4_linkFirst_9 ?_
    refine z_aload_n C dJ4_linkFirst_10 rfl rfl ?_
    refine z_aload_n C dJ4_linkFirst_11 rfl rfl ?_
    refine z_callI (As := [.null, .ref i, .ref b]) (rest := [.ref o2]) (Δ := [eO q 13 [.int m, .int (nI (ys.length + 1)), va_rf (some b), va_rf (eLst ys (some b))], eO b 14 [.ref j, va_rf (eHd ys none), va_rf none], eNs (some b) ys none, rs]) [4] [0, 1, 2, 3] 3 (m_Node_init hl E o2 i none (some b)) C dJ4_linkFirst_12 rfl rfl rfl q948 q949 q81 q950 rfl (by decide +kernel) rfl rfl rfl rfl ⟨Nat.le_of_ble_eq_true rfl, Nat.le_of_ble_eq_true rfl⟩ (Nat.le_trans (eSm rfl eS0) (Nat.le_of_ble_eq_true rfl)) ⟨Nat.le_of_ble_eq_true rfl, Nat.le_of_ble_eq_true rfl⟩ (fun v_ Γ_ hp_ => ?_)
    obtain ⟨rfl, rfl⟩ := hp_
    show eZ x E _ [eO o2 14 [.ref i, va_rf (some b), va_rf none], eO q 13 [.int m, .int (nI (ys.length + 1)), va_rf (some b), va_rf (eLst ys (some b))], eO b 14 [.ref j, va_rf (eHd ys none), va_rf none], eNs (some b) ys none, rs] 15 [some (.ref q), some (.ref i), some (.ref b), none] [.ref o2] 1 3
    refine z_astore_n (L2 := [some (.ref q), some (.ref i), some (.ref b), some (.ref o2)]) C dJ4_linkFirst_15 rfl (Nat.le_of_ble_eq_true rfl) rfl ?_
    refine z_aload_n C dJ4_linkFirst_16 rfl rfl ?_
    refine z_aload_n C dJ4_linkFirst_17 rfl rfl ?_
    refine z_put eK13 1 2 (Γ2 := [eO o2 14 [.ref i, va_rf (some b), va_rf none], eO q 13 [.int m, .int (nI (ys.length + 1)), .ref o2, va_rf (eLst ys (some b))], eO b 14 [.ref j, va_rf (eHd ys none), va_rf none], eNs (some b) ys none, rs]) C dJ4_linkFirst_18 rfl rfl q152 (eSame1 rfl) (by decide) rfl rfl rfl rfl (Nat.le_of_ble_eq_true rfl) rfl ?_
    refine z_aload_n C dJ4_linkFirst_21 rfl rfl ?_
    refine z_ifnonnull (r := some b) 33 C dJ4_linkFirst_22 (by decide) (fun nn_ _h1 => ?_) (fun _h1 => ?_)
    · refine z_aload_n C dJ4_linkFirst_33 rfl rfl ?_
      refine z_aload_n C dJ4_linkFirst_34 rfl rfl ?_
      refine z_put eK14 2 2 (Γ2 := [eO o2 14 [.ref i, va_rf (some b), va_rf none], eO q 13 [.int m, .int (nI (ys.length + 1)), .ref o2, va_rf (eLst ys (some b))], eO b 14 [.ref j, va_rf (eHd ys none), .ref o2], eNs (some b) ys none, rs]) C dJ4_linkFirst_35 rfl rfl q959 (eSame1 rfl) (by decide) rfl rfl rfl rfl (Nat.le_of_ble_eq_true rfl) rfl ?_
      refine z_aload_n C dJ4_linkFirst_38 rfl rfl ?_
      refine z_dup C dJ4_linkFirst_39 rfl ?_
      refine z_get eK13 1 1 C dJ4_linkFirst_40 rfl rfl q150 (eSame1 rfl) (by decide) rfl ?_
      refine z_iconst (v := 1) C dJ4_linkFirst_43 (by decide) ?_
      refine z_iadd (w := (nI (ys.length + 1)) + 1) C dJ4_linkFirst_44 rfl ?_
      refine z_put eK13 1 1 (Γ2 := [eO o2 14 [.ref i, va_rf (some b), va_rf none], eO q 13 [.int m, .int ((nI (ys.length + 1)) + 1), .ref o2, va_rf (eLst ys (some b))], eO b 14 [.ref j, va_rf (eHd ys none), .ref o2], eNs (some b) ys none, rs]) C dJ4_linkFirst_45 rfl rfl q150 (eSame1 rfl) (by decide) rfl rfl rfl rfl (Nat.le_of_ble_eq_true rfl) rfl ?_
      refine z_aload_n C dJ4_linkFirst_48 rfl rfl ?_
      refine z_dup C dJ4_linkFirst_49 rfl ?_
      refine z_get eK13 1 0 C dJ4_linkFirst_50 rfl rfl q131 (eSame2 C q127) (by decide) rfl ?_
      refine z_iconst (v := 1) C dJ4_linkFirst_53 (by decide) ?_
      refine z_iadd (w := m + 1) C dJ4_linkFirst_54 rfl ?_
      refine z_put eK13 1 0 (Γ2 := [eO o2 14 [.ref i, va_rf (some b), va_rf none], eO q 13 [.int (m + 1), .int ((nI (ys.length + 1)) + 1), .ref o2, va_rf (eLst ys (some b))], eO b 14 [.ref j, va_rf (eHd ys none), .ref o2], eNs (some b) ys none, rs]) C dJ4_linkFirst_55 rfl rfl q131 (eSame2 C q127) (by decide) rfl rfl rfl rfl (Nat.le_of_ble_eq_true rfl) rfl ?_
      refine z_pick (Γ' := [eO q 13 [.int (m + 1), .int ((nI (ys.length + 1)) + 1), .ref o2, va_rf (eLst ys (some b))], eO o2 14 [.ref i, va_rf (some b), va_rf none], eO b 14 [.ref j, va_rf (eHd ys none), .ref o2], eNs (some b) ys none, rs]) [1, 0, 2, 3, 4] rfl rfl ?_
      refine z_join 4 (b := eLL q (m + 1) ((o2, i) :: (b, j) :: ys)) (by simp [eLL, eNs_app, eLst_app, eHd_app, eNs_nil, eNs_cons, eHd_nil, eHd_cons, eLst_nil, eLst_cons, e_rfs, e_rfn, ← nI_succ]) rfl ?_
      show eZ x E _ [eLL q (m + 1) ((o2, i) :: (b, j) :: ys), rs] 58 [some (.ref q), some (.ref i), some (.ref b), some (.ref o2)] [] 1 3
      exact z_vret (Γ := [eLL q (m + 1) ((o2, i) :: (b, j) :: ys)]) C dJ4_linkFirst_58 rfl (Nat.le_of_ble_eq_true rfl) (Nat.le_of_ble_eq_true rfl) ⟨rfl, o2, rfl⟩
    · cases _h1

set_option maxHeartbeats 4000000 in
theorem m_LL_addFirst {l : Launch} (hl : l.stackTraces = false) (E : eEn) (q i : Nat) (m : Int32) (xs : List (Nat × Nat)) : eMet l E yJ4_addFirst (ws_ yJ4_addFirst cJ4_addFirst 2 none) ({ frames := 3, cells := 1, slots := 3, locals := 58 }) [.ref q, .ref i] [eLL q m xs] (fun v Γ => v = none ∧ ∃ a, Γ = [eLL q (m + 1) ((a, i) :: xs)]) := by
  refine eStart (cc := cJ4_addFirst) (nL := 2) (L := [some (.ref q), some (.ref i)]) hl (by decide) rfl (List.forall_mem_cons.mpr ⟨rfl, (List.forall_mem_cons.mpr ⟨rfl, (fun _ h => absurd h List.not_mem_nil)⟩)⟩) (Nat.le_of_ble_eq_true rfl) ?_
  intro x rs C
  show eZ x E (eQ x E (fun v Γ => v = none ∧ ∃ a, Γ = [eLL q (m + 1) ((a, i) :: xs)]) rs) [eLL q m xs, rs] 0 [some (.ref q), some (.ref i)] [] 0 0
  refine z_aload_n C dJ4_addFirst_0 rfl rfl ?_
  refine z_aload_n C dJ4_addFirst_1 rfl rfl ?_
  refine z_callV (r := (RJ4, TJ4, 4)) (As := [.ref i]) (rest := []) (Δ := [rs]) [0] [1] 1 (m_LL_linkFirst hl E q i m xs) C dJ4_addFirst_2 rfl rfl (eIn (i := 0) rfl eLL_mem) rfl rfl q1229 q1231 qs14 q55 q1232 (by decide +kernel) rfl rfl rfl rfl ⟨Nat.le_of_ble_eq_true rfl, Nat.le_of_ble_eq_true rfl⟩ (Nat.le_trans eS0 (Nat.le_of_ble_eq_true rfl)) ⟨Nat.le_of_ble_eq_true rfl, Nat.le_of_ble_eq_true rfl⟩ (fun v_ Γ_ hp_ => ?_)
  obtain ⟨rfl, a, rfl⟩ := hp_
  show eZ x E _ [eLL q (m + 1) ((a, i) :: xs), rs] 5 [some (.ref q), some (.ref i)] [] 1 3
  exact z_vret (Γ := [eLL q (m + 1) ((a, i) :: xs)]) C dJ4_addFirst_5 rfl (Nat.le_of_ble_eq_true rfl) (Nat.le_of_ble_eq_true rfl) ⟨rfl, a, rfl⟩

set_option maxHeartbeats 4000000 in
theorem m_LL_unlinkFirst {l : Launch} (hl : l.stackTraces = false) (E : eEn) (q a i : Nat) (m : Int32) (ys : List (Nat × Nat)) : eMet l E yJ4_unlinkFirst (ws_ yJ4_unlinkFirst cJ4_unlinkFirst 4 (some (.object "java/lang/Object"))) ({ frames := 0, cells := 0, slots := 0, locals := 0 }) [.ref q, .ref a] [eLL q m ((a, i) :: ys)] (fun v Γ => v = some (.ref i) ∧ Γ = [eLL q (m + 1) ys]) := by
  refine eStart (cc := cJ4_unlinkFirst) (nL := 4) (L := [some (.ref q), some (.ref a), none, none]) hl (by decide) rfl (List.forall_mem_cons.mpr ⟨rfl, (List.forall_mem_cons.mpr ⟨rfl, (fun _ h => absurd h List.not_mem_nil)⟩)⟩) (Nat.le_of_ble_eq_true rfl) ?_
  intro x rs C
  show eZ x E (eQ x E (fun v Γ => v = some (.ref i) ∧ Γ = [eLL q (m + 1) ys]) rs) [eLL q m ((a, i) :: ys), rs] 0 [some (.ref q), some (.ref a), none, none] [] 0 0
  rcases ys with _ | ⟨⟨b, j⟩, ys⟩
  · refine z_cut 0 (bs := [eO q 13 [.int m, .int (nI (0 + 1)), va_rf (some a), va_rf (some a)], eO a 14 [.ref i, va_rf none, va_rf none]]) rfl (by simp [eLL, eNs_app, eLst_app, eHd_app, eNs_nil, eNs_cons, eHd_nil, eHd_cons, eLst_nil, eLst_cons, e_rfs, e_rfn]) rfl ?_
    show eZ x E _ [eO q 13 [.int m, .int (nI (0 + 1)), va_rf (some a), va_rf (some a)], eO a 14 [.ref i, va_rf none, va_rf none], rs] 0 [some (.ref q), some (.ref a), none, none] [] 0 0
    refine z_aload_n C dJ4_unlinkFirst_0 rfl rfl ?_
    refine z_get eK14 1 0 C dJ4_unlinkFirst_1 rfl rfl q954 (eSame1 rfl) (by decide) rfl ?_
    refine z_astore_n (L2 := [some (.ref q), some (.ref a), some (.ref i), none]) C dJ4_unlinkFirst_4 rfl (Nat.le_of_ble_eq_true rfl) rfl ?_
    refine z_aload_n C dJ4_unlinkFirst_5 rfl rfl ?_
    refine z_get eK14 1 1 C dJ4_unlinkFirst_6 rfl rfl q957 (eSame1 rfl) (by decide) rfl ?_
    refine z_astore_nR (r := none) (L2 := [some (.ref q), some (.ref a), some (.ref i), some (.null)]) C dJ4_unlinkFirst_9 rfl (Nat.le_of_ble_eq_true rfl) rfl ?_
    refine z_aload_n C dJ4_unlinkFirst_10 rfl rfl ?_
    refine z_null C dJ4_unlinkFirst_11 ?_
    refine z_put eK14 1 0 (Γ2 := [eO q 13 [.int m, .int (nI (0 + 1)), va_rf (some a), va_rf (some a)], eO a 14 [.null, va_rf none, va_rf none], rs]) C dJ4_unlinkFirst_12 rfl rfl q954 (eSame1 rfl) (by decide) rfl rfl rfl rfl (Nat.le_of_ble_eq_true rfl) rfl ?_
    refine z_aload_n C dJ4_unlinkFirst_15 rfl rfl ?_
    refine z_null C dJ4_unlinkFirst_16 ?_
    refine z_put eK14 1 1 (Γ2 := [eO q 13 [.int m, .int (nI (0 + 1)), va_rf (some a), va_rf (some a)], eO a 14 [.null, .null, va_rf none], rs]) C dJ4_unlinkFirst_17 rfl rfl q957 (eSame1 rfl) (by decide) rfl rfl rfl rfl (Nat.le_of_ble_eq_true rfl) rfl ?_
    refine z_aload_n C dJ4_unlinkFirst_20 rfl rfl ?_
    refine z_aload_nR (r := none) C dJ4_unlinkFirst_21 rfl rfl ?_
    refine z_put eK13 0 2 (Γ2 := [eO q 13 [.int m, .int (nI (0 + 1)), .null, va_rf (some a)], eO a 14 [.null, .null, va_rf none], rs]) C dJ4_unlinkFirst_22 rfl rfl q152 (eSame1 rfl) (by decide) rfl rfl rfl rfl (Nat.le_of_ble_eq_true rfl) rfl ?_
    refine z_aload_nR (r := none) C dJ4_unlinkFirst_25 rfl rfl ?_
    refine z_ifnonnull (r := none) 37 C dJ4_unlinkFirst_26 (by decide) (fun nn_ _h1 => ?_) (fun _h1 => ?_)
    · cases _h1
    · refine z_aload_n C dJ4_unlinkFirst_29 rfl rfl ?_
      refine z_null C dJ4_unlinkFirst_30 ?_
      refine z_put eK13 0 3 (Γ2 := [eO q 13 [.int m, .int (nI (0 + 1)), .null, .null], eO a 14 [.null, .null, va_rf none], rs]) C dJ4_unlinkFirst_31 rfl rfl q153 (eSame1 rfl) (by decide) rfl rfl rfl rfl (Nat.le_of_ble_eq_true rfl) rfl ?_
      refine z_goto 42 C dJ4_unlinkFirst_34 (by decide) ?_
      refine z_aload_n C dJ4_unlinkFirst_42 rfl rfl ?_
      refine z_dup C dJ4_unlinkFirst_43 rfl ?_
      refine z_get eK13 0 1 C dJ4_unlinkFirst_44 rfl rfl q150 (eSame1 rfl) (by decide) rfl ?_
      refine z_iconst (v := 1) C dJ4_unlinkFirst_47 (by decide) ?_
      refine z_isub (w := nI 0) C dJ4_unlinkFirst_48 (nI_pred _) ?_
      refine z_put eK13 0 1 (Γ2 := [eO q 13 [.int m, .int (nI 0), .null, .null], eO a 14 [.null, .null, va_rf none], rs]) C dJ4_unlinkFirst_49 rfl rfl q150 (eSame1 rfl) (by decide) rfl rfl rfl rfl (Nat.le_of_ble_eq_true rfl) rfl ?_
      refine z_aload_n C dJ4_unlinkFirst_52 rfl rfl ?_
      refine z_dup C dJ4_unlinkFirst_53 rfl ?_
      refine z_get eK13 0 0 C dJ4_unlinkFirst_54 rfl rfl q131 (eSame2 C q127) (by decide) rfl ?_
      refine z_iconst (v := 1) C dJ4_unlinkFirst_57 (by decide) ?_
      refine z_iadd (w := m + 1) C dJ4_unlinkFirst_58 rfl ?_
      refine z_put eK13 0 0 (Γ2 := [eO q 13 [.int (m + 1), .int (nI 0), .null, .null], eO a 14 [.null, .null, va_rf none], rs]) C dJ4_unlinkFirst_59 rfl rfl q131 (eSame2 C q127) (by decide) rfl rfl rfl rfl (Nat.le_of_ble_eq_true rfl) rfl ?_
      refine z_aload_n C dJ4_unlinkFirst_62 rfl rfl ?_
      refine z_pick (Γ' := [eO a 14 [.null, .null, va_rf none], eO q 13 [.int (m + 1), .int (nI 0), .null, .null], rs]) [1, 0, 2] rfl rfl ?_
      refine z_drop ?_
      refine z_join 1 (b := eLL q (m + 1) []) (by simp [eLL, eNs_app, eLst_app, eHd_app, eNs_nil, eNs_cons, eHd_nil, eHd_cons, eLst_nil, eLst_cons, e_rfs, e_rfn, ← nI_succ]) rfl ?_
      show eZ x E _ [eLL q (m + 1) [], rs] 63 [some (.ref q), some (.ref a), some (.ref i), some (.null)] [.ref i] 0 0
      exact z_aret (Γ := [eLL q (m + 1) []]) C dJ4_unlinkFirst_63 rfl (Or.inl ⟨_, rfl⟩) (Or.inr ⟨_, rfl⟩) (Nat.le_of_ble_eq_true rfl) (Nat.le_of_ble_eq_true rfl) ⟨rfl, rfl⟩
  · refine z_cut 0 (bs := [eO q 13 [.int m, .int (nI (((b, j) :: ys).length + 1)), va_rf (some a), va_rf (eLst ys (some b))], eO a 14 [.ref i, va_rf (some b), va_rf none], eO b 14 [.ref j, va_rf (eHd ys none), va_rf (some a)], eNs (some b) ys none]) rfl (by simp [eLL, eNs_app, eLst_app, eHd_app, eNs_nil, eNs_cons, eHd_nil, eHd_cons, eLst_nil, eLst_cons, e_rfs, e_rfn]) rfl ?_
    show eZ x E _ [eO q 13 [.int m, .int (nI (((b, j) :: ys).length + 1)), va_rf (some a), va_rf (eLst ys (some b))], eO a 14 [.ref i, va_rf (some b), va_rf none], eO b 14 [.ref j, va_rf (eHd ys none), va_rf (some a)], eNs (some b) ys none, rs] 0 [some (.ref q), some (.ref a), none, none] [] 0 0
    refine z_aload_n C dJ4_unlinkFirst_0 rfl rfl ?_
    refine z_get eK14 1 0 C dJ4_unlinkFirst_1 rfl rfl q954 (eSame1 rfl) (by decide) rfl ?_
    refine z_astore_n (L2 := [some (.ref q), some (.ref a), some (.ref i), none]) C dJ4_unlinkFirst_4 rfl (Nat.le_of_ble_eq_true rfl) rfl ?_
    refine z_aload_n C dJ4_unlinkFirst_5 rfl rfl ?_
    refine z_get eK14 1 1 C dJ4_unlinkFirst_6 rfl rfl q957 (eSame1 rfl) (by decide) rfl ?_
    refine z_astore_n (L2 := [some (.ref q), some (.ref a), some (.ref i), some (.ref b)]) C dJ4_unlinkFirst_9 rfl (Nat.le_of_ble_eq_true rfl) rfl ?_
    refine z_aload_n C dJ4_unlinkFirst_10 rfl rfl ?_
    refine z_null C dJ4_unlinkFirst_11 ?_
    refine z_put eK14 1 0 (Γ2 := [eO q 13 [.int m, .int (nI (((b, j) :: ys).length + 1)), va_rf (some a), va_rf (eLst ys (some b))], eO a 14 [.null, va_rf (some b), va_rf none], eO b 14 [.ref j, va_rf (eHd ys none), va_rf (some a)], eNs (some b) ys none, rs]) C dJ4_unlinkFirst_12 rfl rfl q954 (eSame1 rfl) (by decide) rfl rfl rfl rfl (Nat.le_of_ble_eq_true rfl) rfl ?_
    refine z_aload_n C dJ4_unlinkFirst_15 rfl rfl ?_
    refine z_null C dJ4_unlinkFirst_16 ?_
    refine z_put eK14 1 1 (Γ2 := [eO q 13 [.int m, .int (nI (((b, j) :: ys).length + 1)), va_rf (some a), va_rf (eLst ys (some b))], eO a 14 [.null, .null, va_rf none], eO b 14 [.ref j, va_rf (eHd ys none), va_rf (some a)], eNs (some b) ys none, rs]) C dJ4_unlinkFirst_17 rfl rfl q957 (eSame1 rfl) (by decide) rfl rfl rfl rfl (Nat.le_of_ble_eq_true rfl) rfl ?_
    refine z_aload_n C dJ4_unlinkFirst_20 rfl rfl ?_
    refine z_aload_n C dJ4_unlinkFirst_21 rfl rfl ?_
    refine z_put eK13 0 2 (Γ2 := [eO q 13 [.int m, .int (nI (((b, j) :: ys).length + 1)), .ref b, va_rf (eLst ys (some b))], eO a 14 [.null, .null, va_rf none], eO b 14 [.ref j, va_rf (eHd ys none), va_rf (some a)], eNs (some b) ys none, rs]) C dJ4_unlinkFirst_22 rfl rfl q152 (eSame1 rfl) (by decide) rfl rfl rfl rfl (Nat.le_of_ble_eq_true rfl) rfl ?_
    refine z_aload_n C dJ4_unlinkFirst_25 rfl rfl ?_
    refine z_ifnonnull (r := some b) 37 C dJ4_unlinkFirst_26 (by decide) (fun nn_ _h1 => ?_) (fun _h1 => ?_)
    · refine z_aload_n C dJ4_unlinkFirst_37 rfl rfl ?_
      refine z_null C dJ4_unlinkFirst_38 ?_
      refine z_put eK14 2 2 (Γ2 := [eO q 13 [.int m, .int (nI (((b, j) :: ys).length + 1)), .ref b, va_rf (eLst ys (some b))], eO a 14 [.null, .null, va_rf none], eO b 14 [.ref j, va_rf (eHd ys none), .null], eNs (some b) ys none, rs]) C dJ4_unlinkFirst_39 rfl rfl q959 (eSame1 rfl) (by decide) rfl rfl rfl rfl (Nat.le_of_ble_eq_true rfl) rfl ?_
      refine z_aload_n C dJ4_unlinkFirst_42 rfl rfl ?_
      refine z_dup C dJ4_unlinkFirst_43 rfl ?_
      refine z_get eK13 0 1 C dJ4_unlinkFirst_44 rfl rfl q150 (eSame1 rfl) (by decide) rfl ?_
      refine z_iconst (v := 1) C dJ4_unlinkFirst_47 (by decide) ?_
      refine z_isub (w := nI (((b, j) :: ys).length)) C dJ4_unlinkFirst_48 (nI_pred _) ?_
      refine z_put eK13 0 1 (Γ2 := [eO q 13 [.int m, .int (nI (((b, j) :: ys).length)), .ref b, va_rf (eLst ys (some b))], eO a 14 [.null, .null, va_rf none], eO b 14 [.ref j, va_rf (eHd ys none), .null], eNs (some b) ys none, rs]) C dJ4_unlinkFirst_49 rfl rfl q150 (eSame1 rfl) (by decide) rfl rfl rfl rfl (Nat.le_of_ble_eq_true rfl) rfl ?_
      refine z_aload_n C dJ4_unlinkFirst_52 rfl rfl ?_
      refine z_dup C dJ4_unlinkFirst_53 rfl ?_
      refine z_get eK13 0 0 C dJ4_unlinkFirst_54 rfl rfl q131 (eSame2 C q127) (by decide) rfl ?_
      refine z_iconst (v := 1) C dJ4_unlinkFirst_57 (by decide) ?_
      refine z_iadd (w := m + 1) C dJ4_unlinkFirst_58 rfl ?_
      refine z_put eK13 0 0 (Γ2 := [eO q 13 [.int (m + 1), .int (nI (((b, j) :: ys).length)), .ref b, va_rf (eLst ys (some b))], eO a 14 [.null, .null, va_rf none], eO b 14 [.ref j, va_rf (eHd ys none), .null], eNs (some b) ys none, rs]) C dJ4_unlinkFirst_59 rfl rfl q131 (eSame2 C q127) (by decide) rfl rfl rfl rfl (Nat.le_of_ble_eq_true rfl) rfl ?_
      refine z_aload_n C dJ4_unlinkFirst_62 rfl rfl ?_
      refine z_pick (Γ' := [eO a 14 [.null, .null, va_rf none], eO q 13 [.int (m + 1), .int (nI (((b, j) :: ys).length)), .ref b, va_rf (eLst ys (some b))], eO b 14 [.ref j, va_rf (eHd ys none), .null], eNs (some b) ys none, rs]) [1, 0, 2, 3, 4] rfl rfl ?_
      refine z_drop ?_
      refine z_join 3 (b := eLL q (m + 1) ((b, j) :: ys)) (by simp [eLL, eNs_app, eLst_app, eHd_app, eNs_nil, eNs_cons, eHd_nil, eHd_cons, eLst_nil, eLst_cons, e_rfs, e_rfn, ← nI_succ]) rfl ?_
      show eZ x E _ [eLL q (m + 1) ((b, j) :: ys), rs] 63 [some (.ref q), some (.ref a), some (.ref i), some (.ref b)] [.ref i] 0 0
      exact z_aret (Γ := [eLL q (m + 1) ((b, j) :: ys)]) C dJ4_unlinkFirst_63 rfl (Or.inl ⟨_, rfl⟩) (Or.inr ⟨_, rfl⟩) (Nat.le_of_ble_eq_true rfl) (Nat.le_of_ble_eq_true rfl) ⟨rfl, rfl⟩
    · cases _h1

set_option maxHeartbeats 4000000 in
theorem m_LL_removeFirst {l : Launch} (hl : l.stackTraces = false) (E : eEn) (q a i : Nat) (m : Int32) (ys : List (Nat × Nat)) : eMet l E yJ4_removeFirst (ws_ yJ4_removeFirst cJ4_removeFirst 2 (some (.object "java/lang/Object"))) ({ frames := 1, cells := 0, slots := 0, locals := 23 }) [.ref q] [eLL q m ((a, i) :: ys)] (fun v Γ => v = some (.ref i) ∧ Γ = [eLL q (m + 1) ys]) := by
  refine eStart (cc := cJ4_removeFirst) (nL := 2) (L := [some (.ref q), none]) hl (by decide) rfl (List.forall_mem_cons.mpr ⟨rfl, (fun _ h => absurd h List.not_mem_nil)⟩) (Nat.le_of_ble_eq_true rfl) ?_
  intro x rs C
  show eZ x E (eQ x E (fun v Γ => v = some (.ref i) ∧ Γ = [eLL q (m + 1) ys]) rs) [eLL q m ((a, i) :: ys), rs] 0 [some (.ref q), none] [] 0 0
  refine z_cut 0 (bs := [eO q 13 [.int m, .int (nI (ys.length + 1)), va_rf (some a), va_rf (eLst ys (some a))], eNs none ((a, i) :: ys) none]) rfl eLL_cut rfl ?_
  show eZ x E _ [eO q 13 [.int m, .int (nI (ys.length + 1)), va_rf (some a), va_rf (eLst ys (some a))], eNs none ((a, i) :: ys) none, rs] 0 [some (.ref q), none] [] 0 0
  refine z_aload_n C dJ4_removeFirst_0 rfl rfl ?_
  refine z_get eK13 0 2 C dJ4_removeFirst_1 rfl rfl q152 (eSame1 rfl) (by decide) rfl ?_
  refine z_astore_n (L2 := [some (.ref q), some (.ref a)]) C dJ4_removeFirst_4 rfl (Nat.le_of_ble_eq_true rfl) rfl ?_
  refine z_aload_n C dJ4_removeFirst_5 rfl rfl ?_
  refine z_ifnonnull (r := some a) 17 C dJ4_removeFirst_6 (by decide) (fun nn_ _h1 => ?_) (fun _h1 => ?_)
  · refine z_join 2 (b := eLL q m ((a, i) :: ys)) (by simp [eLL, eNs_app, eLst_app, eHd_app, eNs_nil, eNs_cons, eHd_nil, eHd_cons, eLst_nil, eLst_cons, e_rfs, e_rfn, ← nI_succ]) rfl ?_
    show eZ x E _ [eLL q m ((a, i) :: ys), rs] 17 [some (.ref q), some (.ref a)] [] 0 0
    refine z_aload_n C dJ4_removeFirst_17 rfl rfl ?_
    refine z_aload_n C dJ4_removeFirst_18 rfl rfl ?_
    refine z_callV (r := (RJ4, TJ4, 4)) (As := [.ref a]) (rest := []) (Δ := [rs]) [0] [1] 1 (m_LL_unlinkFirst hl E q a i m ys) C dJ4_removeFirst_19 rfl rfl (eIn (i := 0) rfl eLL_mem) rfl rfl q1186 q1188 qs11 q55 q1189 (by decide +kernel) rfl rfl rfl rfl ⟨Nat.le_of_ble_eq_true rfl, Nat.le_of_ble_eq_true rfl⟩ (Nat.le_trans eS0 (Nat.le_of_ble_eq_true rfl)) ⟨Nat.le_of_ble_eq_true rfl, Nat.le_of_ble_eq_true rfl⟩ (fun v_ Γ_ hp_ => ?_)
    obtain ⟨rfl, rfl⟩ := hp_
    show eZ x E _ [eLL q (m + 1) ys, rs] 22 [some (.ref q), some (.ref a)] [.ref i] 0 0
    exact z_aret (Γ := [eLL q (m + 1) ys]) C dJ4_removeFirst_22 rfl (Or.inl ⟨_, rfl⟩) (Or.inr ⟨_, rfl⟩) (Nat.le_of_ble_eq_true rfl) (Nat.le_of_ble_eq_true rfl) ⟨rfl, rfl⟩
  · cases _h1

set_option maxHeartbeats 4000000 in
theorem m_LL_unlinkLast {l : Launch} (hl : l.stackTraces = false) (E : eEn) (q a i : Nat) (m : Int32) (ys : List (Nat × Nat)) : eMet l E yJ4_unlinkLast (ws_ yJ4_unlinkLast cJ4_unlinkLast 4 (some (.object "java/lang/Object"))) ({ frames := 0, cells := 0, slots := 0, locals := 0 }) [.ref q, .ref a] [eLL q m (ys ++ [(a, i)])] (fun v Γ => v = some (.ref i) ∧ Γ = [eLL q (m + 1) ys]) := by
  refine eStart (cc := cJ4_unlinkLast) (nL := 4) (L := [some (.ref q), some (.ref a), none, none]) hl (by decide) rfl (List.forall_mem_cons.mpr ⟨rfl, (List.forall_mem_cons.mpr ⟨rfl, (fun _ h => absurd h List.not_mem_nil)⟩)⟩) (Nat.le_of_ble_eq_true rfl) ?_
  intro x rs C
  show eZ x E (eQ x E (fun v Γ => v = some (.ref i) ∧ Γ = [eLL q (m + 1) ys]) rs) [eLL q m (ys ++ [(a, i)]), rs] 0 [some (.ref q), some (.ref a), none, none] [] 0 0
  rcases List.eq_nil_or_concat ys with rfl | ⟨zs, ⟨b, j⟩, rfl⟩
  · refine z_cut 0 (bs := [eO q 13 [.int m, .int (nI (0 + 1)), va_rf (some a), va_rf (some a)], eO a 14 [.ref i, va_rf none, va_rf none]]) rfl (by simp [eLL, eNs_app, eLst_app, eHd_app, eNs_nil, eNs_cons, eHd_nil, eHd_cons, eLst_nil, eLst_cons, e_rfs, e_rfn, Nat.add_assoc]) rfl ?_
    show eZ x E _ [eO q 13 [.int m, .int (nI (0 + 1)), va_rf (some a), va_rf (some a)], eO a 14 [.ref i, va_rf none, va_rf none], rs] 0 [some (.ref q), some (.ref a), none, none] [] 0 0
    refine z_aload_n C dJ4_unlinkLast_0 rfl rfl ?_
    refine z_get eK14 1 0 C dJ4_unlinkLast_1 rfl rfl q954 (eSame1 rfl) (by decide) rfl ?_
    refine z_astore_n (L2 := [some (.ref q), some (.ref a), some (.ref i), none]) C dJ4_unlinkLast_4 rfl (Nat.le_of_ble_eq_true rfl) rfl ?_
    refine z_aload_n C dJ4_unlinkLast_5 rfl rfl ?_
    refine z_get eK14 1 2 C dJ4_unlinkLast_6 rfl rfl q959 (eSame1 rfl) (by decide) rfl ?_
    refine z_astore_nR (r := none) (L2 := [some (.ref q), some (.ref a), some (.ref i), some (.null)]) C dJ4_unlinkLast_9 rfl (Nat.le_of_ble_eq_true rfl) rfl ?_
    refine z_aload_n C dJ4_unlinkLast_10 rfl rfl ?_
    refine z_null C dJ4_unlinkLast_11 ?_
    refine z_put eK14 1 0 (Γ2 := [eO q 13 [.int m, .int (nI (0 + 1)), va_rf (some a), va_rf (some a)], eO a 14 [.null, va_rf none, va_rf none], rs]) C dJ4_unlinkLast_12 rfl rfl q954 (eSame1 rfl) (by decide) rfl rfl rfl rfl (Nat.le_of_ble_eq_true rfl) rfl ?_
    refine z_aload_n C dJ4_unlinkLast_15 rfl rfl ?_
    refine z_null C dJ4_unlinkLast_16 ?_
    refine z_put eK14 1 2 (Γ2 := [eO q 13 [.int m, .int (nI (0 + 1)), va_rf (some a), va_rf (some a)], eO a 14 [.null, va_rf none, .null], rs]) C dJ4_unlinkLast_17 rfl rfl q959 (eSame1 rfl) (by decide) rfl rfl rfl rfl (Nat.le_of_ble_eq_true rfl) rfl ?_
    refine z_aload_n C dJ4_unlinkLast_20 rfl rfl ?_
    refine z_aload_nR (r := none) C dJ4_unlinkLast_21 rfl rfl ?_
    refine z_put eK13 0 3 (Γ2 := [eO q 13 [.int m, .int (nI (0 + 1)), va_rf (some a), .null], eO a 14 [.null, va_rf none, .null], rs]) C dJ4_unlinkLast_22 rfl rfl q153 (eSame1 rfl) (by decide) rfl rfl rfl rfl (Nat.le_of_ble_eq_true rfl) rfl ?_
    refine z_aload_nR (r := none) C dJ4_unlinkLast_25 rfl rfl ?_
    refine z_ifnonnull (r := none) 37 C dJ4_unlinkLast_26 (by decide) (fun nn_ _h1 => ?_) (fun _h1 => ?_)
    · cases _h1
    · refine z_aload_n C dJ4_unlinkLast_29 rfl rfl ?_
      refine z_null C dJ4_unlinkLast_30 ?_
      refine z_put eK13 0 2 (Γ2 := [eO q 13 [.int m, .int (nI (0 + 1)), .null, .null], eO a 14 [.null, va_rf none, .null], rs]) C dJ4_unlinkLast_31 rfl rfl q152 (eSame1 rfl) (by decide) rfl rfl rfl rfl (Nat.le_of_ble_eq_true rfl) rfl ?_
      refine z_goto 42 C dJ4_unlinkLast_34 (by decide) ?_
      refine z_aload_n C dJ4_unlinkLast_42 rfl rfl ?_
      refine z_dup C dJ4_unlinkLast_43 rfl ?_
      refine z_get eK13 0 1 C dJ4_unlinkLast_44 rfl rfl q150 (eSame1 rfl) (by decide) rfl ?_
      refine z_iconst (v := 1) C dJ4_unlinkLast_47 (by decide) ?_
      refine z_isub (w := nI 0) C dJ4_unlinkLast_48 (nI_pred _) ?_
      refine z_put eK13 0 1 (Γ2 := [eO q 13 [.int m, .int (nI 0), .null, .null], eO a 14 [.null, va_rf none, .null], rs]) C dJ4_unlinkLast_49 rfl rfl q150 (eSame1 rfl) (by decide) rfl rfl rfl rfl (Nat.le_of_ble_eq_true rfl) rfl ?_
      refine z_aload_n C dJ4_unlinkLast_52 rfl rfl ?_
      refine z_dup C dJ4_unlinkLast_53 rfl ?_
      refine z_get eK13 0 0 C dJ4_unlinkLast_54 rfl rfl q131 (eSame2 C q127) (by decide) rfl ?_
      refine z_iconst (v := 1) C dJ4_unlinkLast_57 (by decide) ?_
      refine z_iadd (w := m + 1) C dJ4_unlinkLast_58 rfl ?_
      refine z_put eK13 0 0 (Γ2 := [eO q 13 [.int (m + 1), .int (nI 0), .null, .null], eO a 14 [.null, va_rf none, .null], rs]) C dJ4_unlinkLast_59 rfl rfl q131 (eSame2 C q127) (by decide) rfl rfl rfl rfl (Nat.le_of_ble_eq_true rfl) rfl ?_
      refine z_aload_n C dJ4_unlinkLast_62 rfl rfl ?_
      refine z_pick (Γ' := [eO a 14 [.null, va_rf none, .null], eO q 13 [.int (m + 1), .int (nI 0), .null, .null], rs]) [1, 0, 2] rfl rfl ?_
      refine z_drop ?_
      refine z_join 1 (b := eLL q (m + 1) []) (by simp [eLL, eNs_app, eLst_app, eHd_app, eNs_nil, eNs_cons, eHd_nil, eHd_cons, eLst_nil, eLst_cons, e_rfs, e_rfn, ← nI_succ]) rfl ?_
      show eZ x E _ [eLL q (m + 1) [], rs] 63 [some (.ref q), some (.ref a), some (.ref i), some (.null)] [.ref i] 0 0
      exact z_aret (Γ := [eLL q (m + 1) []]) C dJ4_unlinkLast_63 rfl (Or.inl ⟨_, rfl⟩) (Or.inr ⟨_, rfl⟩) (Nat.le_of_ble_eq_true rfl) (Nat.le_of_ble_eq_true rfl) ⟨rfl, rfl⟩
  · rw [List.concat_eq_append]
    refine z_cut 0 (bs := [eO q 13 [.int m, .int (nI ((zs ++ [(b, j)]).length + 1)), va_rf (eHd (zs ++ [(b, j)]) none), va_rf (some a)], eNs none zs (some b), eO b 14 [.ref j, va_rf (some a), va_rf (eLst zs none)], eO a 14 [.ref i, va_rf none, va_rf (some b)]]) rfl (by simp [eLL, eNs_app, eLst_app, eHd_app, eNs_nil, eNs_cons, eHd_nil, eHd_cons, eLst_nil, eLst_cons, e_rfs, e_rfn, Nat.add_assoc]) rfl ?_
    show eZ x E _ [eO q 13 [.int m, .int (nI ((zs ++ [(b, j)]).length + 1)), va_rf (eHd (zs ++ [(b, j)]) none), va_rf (some a)], eNs none zs (some b), eO b 14 [.ref j, va_rf (some a), va_rf (eLst zs none)], eO a 14 [.ref i, va_rf none, va_rf (some b)], rs] 0 [some (.ref q), some (.ref a), none, none] [] 0 0
    refine z_aload_n C dJ4_unlinkLast_0 rfl rfl ?_
    refine z_get eK14 3 0 C dJ4_unlinkLast_1 rfl rfl q954 (eSame1 rfl) (by decide) rfl ?_
    refine z_astore_n (L2 := [some (.ref q), some (.ref a), some (.ref i), none]) C dJ4_unlinkLast_4 rfl (Nat.le_of_ble_eq_true rfl) rfl ?_
    refine z_aload_n C dJ4_unlinkLast_5 rfl rfl ?_
    refine z_get eK14 3 2 C dJ4_unlinkLast_6 rfl rfl q959 (eSame1 rfl) (by decide) rfl ?_
    refine z_astore_n (L2 := [some (.ref q), some (.ref a), some (.ref i), some (.ref b)]) C dJ4_unlinkLast_9 rfl (Nat.le_of_ble_eq_true rfl) rfl ?_
    refine z_aload_n C dJ4_unlinkLast_10 rfl rfl ?_
    refine z_null C dJ4_unlinkLast_11 ?_
    refine z_put eK14 3 0 (Γ2 := [eO q 13 [.int m, .int (nI ((zs ++ [(b, j)]).length + 1)), va_rf (eHd (zs ++ [(b, j)]) none), va_rf (some a)], eNs none zs (some b), eO b 14 [.ref j, va_rf (some a), va_rf (eLst zs none)], eO a 14 [.null, va_rf none, va_rf (some b)], rs]) C dJ4_unlinkLast_12 rfl rfl q954 (eSame1 rfl) (by decide) rfl rfl rfl rfl (Nat.le_of_ble_eq_true rfl) rfl ?_
    refine z_aload_n C dJ4_unlinkLast_15 rfl rfl ?_
    refine z_null C dJ4_unlinkLast_16 ?_
    refine z_put eK14 3 2 (Γ2 := [eO q 13 [.int m, .int (nI ((zs ++ [(b, j)]).length + 1)), va_rf (eHd (zs ++ [(b, j)]) none), va_rf (some a)], eNs none zs (some b), eO b 14 [.ref j, va_rf (some a), va_rf (eLst zs none)], eO a 14 [.null, va_rf none, .null], rs]) C dJ4_unlinkLast_17 rfl rfl q959 (eSame1 rfl) (by decide) rfl rfl rfl rfl (Nat.le_of_ble_eq_true rfl) rfl ?_
    refine z_aload_n C dJ4_unlinkLast_20 rfl rfl ?_
    refine z_aload_n C dJ4_unlinkLast_21 rfl rfl ?_
    refine z_put eK13 0 3 (Γ2 := [eO q 13 [.int m, .int (nI ((zs ++ [(b, j)]).length + 1)), va_rf (eHd (zs ++ [(b, j)]) none), .ref b], eNs none zs (some b), eO b 14 [.ref j, va_rf (some a), va_rf (eLst zs none)], eO a 14 [.null, va_rf none, .null], rs]) C dJ4_unlinkLast_22 rfl rfl q153 (eSame1 rfl) (by decide) rfl rfl rfl rfl (Nat.le_of_ble_eq_true rfl) rfl ?_
    refine z_aload_n C dJ4_unlinkLast_25 rfl rfl ?_
    refine z_ifnonnull (r := some b) 37 C dJ4_unlinkLast_26 (by decide) (fun nn_ _h1 => ?_) (fun _h1 => ?_)
    · refine z_aload_n C dJ4_unlinkLast_37 rfl rfl ?_
      refine z_null C dJ4_unlinkLast_38 ?_
      refine z_put eK14 2 1 (Γ2 := [eO q 13 [.int m, .int (nI ((zs ++ [(b, j)]).length + 1)), va_rf (eHd (zs ++ [(b, j)]) none), .ref b], eNs none zs (some b), eO b 14 [.ref j, .null, va_rf (eLst zs none)], eO a 14 [.null, va_rf none, .null], rs]) C dJ4_unlinkLast_39 rfl rfl q957 (eSame1 rfl) (by decide) rfl rfl rfl rfl (Nat.le_of_ble_eq_true rfl) rfl ?_
      refine z_aload_n C dJ4_unlinkLast_42 rfl rfl ?_
      refine z_dup C dJ4_unlinkLast_43 rfl ?_
      refine z_get eK13 0 1 C dJ4_unlinkLast_44 rfl rfl q150 (eSame1 rfl) (by decide) rfl ?_
      refine z_iconst (v := 1) C dJ4_unlinkLast_47 (by decide) ?_
      refine z_isub (w := nI ((zs ++ [(b, j)]).length)) C dJ4_unlinkLast_48 (nI_pred _) ?_
      refine z_put eK13 0 1 (Γ2 := [eO q 13 [.int m, .int (nI ((zs ++ [(b, j)]).length)), va_rf (eHd (zs ++ [(b, j)]) none), .ref b], eNs none zs (some b), eO b 14 [.ref j, .null, va_rf (eLst zs none)], eO a 14 [.null, va_rf none, .null], rs]) C dJ4_unlinkLast_49 rfl rfl q150 (eSame1 rfl) (by decide) rfl rfl rfl rfl (Nat.le_of_ble_eq_true rfl) rfl ?_
      refine z_aload_n C dJ4_unlinkLast_52 rfl rfl ?_
      refine z_dup C dJ4_unlinkLast_53 rfl ?_
      refine z_get eK13 0 0 C dJ4_unlinkLast_54 rfl rfl q131 (eSame2 C q127) (by decide) rfl ?_
      refine z_iconst (v := 1) C dJ4_unlinkLast_57 (by decide) ?_
      refine z_iadd (w := m + 1) C dJ4_unlinkLast_58 rfl ?_
      refine z_put eK13 0 0 (Γ2 := [eO q 13 [.int (m + 1), .int (nI ((zs ++ [(b, j)]).length)), va_rf (eHd (zs ++ [(b, j)]) none), .ref b], eNs none zs (some b), eO b 14 [.ref j, .null, va_rf (eLst zs none)], eO a 14 [.null, va_rf none, .null], rs]) C dJ4_unlinkLast_59 rfl rfl q131 (eSame2 C q127) (by decide) rfl rfl rfl rfl (Nat.le_of_ble_eq_true rfl) rfl ?_
      refine z_aload_n C dJ4_unlinkLast_62 rfl rfl ?_
      refine z_pick (Γ' := [eO a 14 [.null, va_rf none, .null], eO q 13 [.int (m + 1), .int (nI ((zs ++ [(b, j)]).length)), va_rf (eHd (zs ++ [(b, j)]) none), .ref b], eNs none zs (some b), eO b 14 [.ref j, .null, va_rf (eLst zs none)], rs]) [3, 0, 1, 2, 4] rfl rfl ?_
      refine z_drop ?_
      refine z_join 3 (b := eLL q (m + 1) (zs ++ [(b, j)])) (by simp [eLL, eNs_app, eLst_app, eHd_app, eNs_nil, eNs_cons, eHd_nil, eHd_cons, eLst_nil, eLst_cons, e_rfs, e_rfn, ← nI_succ]) rfl ?_
      show eZ x E _ [eLL q (m + 1) (zs ++ [(b, j)]), rs] 63 [some (.ref q), some (.ref a), some (.ref i), some (.ref b)] [.ref i] 0 0
      exact z_aret (Γ := [eLL q (m + 1) (zs ++ [(b, j)])]) C dJ4_unlinkLast_63 rfl (Or.inl ⟨_, rfl⟩) (Or.inr ⟨_, rfl⟩) (Nat.le_of_ble_eq_true rfl) (Nat.le_of_ble_eq_true rfl) ⟨rfl, rfl⟩
    · cases _h1

set_option maxHeartbeats 4000000 in
theorem m_LL_removeLast {l : Launch} (hl : l.stackTraces = false) (E : eEn) (q a i : Nat) (m : Int32) (ys : List (Nat × Nat)) : eMet l E yJ4_removeLast (ws_ yJ4_removeLast cJ4_removeLast 2 (some (.object "java/lang/Object"))) ({ frames := 1, cells := 0, slots := 0, locals := 23 }) [.ref q] [eLL q m (ys ++ [(a, i)])] (fun v Γ => v = some (.ref i) ∧ Γ = [eLL q (m + 1) ys]) := by
  refine eStart (cc := cJ4_removeLast) (nL := 2) (L := [some (.ref q), none]) hl (by decide) rfl (List.forall_mem_cons.mpr ⟨rfl, (fun _ h => absurd h List.not_mem_nil)⟩) (Nat.le_of_ble_eq_true rfl) ?_
  intro x rs C
  show eZ x E (eQ x E (fun v Γ => v = some (.ref i) ∧ Γ = [eLL q (m + 1) ys]) rs) [eLL q m (ys ++ [(a, i)]), rs] 0 [some (.ref q), none] [] 0 0
  refine z_cut 0 (bs := [eO q 13 [.int m, .int (nI (ys ++ [(a, i)]).length), va_rf (eHd (ys ++ [(a, i)]) none), va_rf (some a)], eNs none (ys ++ [(a, i)]) none]) rfl (by simp [eLL, eLst_app, eLst_cons, eLst_nil]) rfl ?_
  show eZ x E _ [eO q 13 [.int m, .int (nI (ys ++ [(a, i)]).length), va_rf (eHd (ys ++ [(a, i)]) none), va_rf (some a)], eNs none (ys ++ [(a, i)]) none, rs] 0 [some (.ref q), none] [] 0 0
  refine z_aload_n C dJ4_removeLast_0 rfl rfl ?_
  refine z_get eK13 0 3 C dJ4_removeLast_1 rfl rfl q153 (eSame1 rfl) (by decide) rfl ?_
  refine z_astore_n (L2 := [some (.ref q), some (.ref a)]) C dJ4_removeLast_4 rfl (Nat.le_of_ble_eq_true rfl) rfl ?_
  refine z_aload_n C dJ4_removeLast_5 rfl rfl ?_
  refine z_ifnonnull (r := some a) 17 C dJ4_removeLast_6 (by decide) (fun nn_ _h1 => ?_) (fun _h1 => ?_)
  · refine z_join 2 (b := eLL q m (ys ++ [(a, i)])) (by simp [eLL, eLst_app, eLst_cons, eLst_nil, e_rfs]) rfl ?_
    show eZ x E _ [eLL q m (ys ++ [(a, i)]), rs] 17 [some (.ref q), some (.ref a)] [] 0 0
    refine z_aload_n C dJ4_removeLast_17 rfl rfl ?_
    refine z_aload_n C dJ4_removeLast_18 rfl rfl ?_
    refine z_callV (r := (RJ4, TJ4, 4)) (As := [.ref a]) (rest := []) (Δ := [rs]) [0] [1] 1 (m_LL_unlinkLast hl E q a i m ys) C dJ4_removeLast_19 rfl rfl (eIn (i := 0) rfl eLL_mem) rfl rfl q1237 q1239 qs15 q55 q1240 (by decide +kernel) rfl rfl rfl rfl ⟨Nat.le_of_ble_eq_true rfl, Nat.le_of_ble_eq_true rfl⟩ (Nat.le_trans eS0 (Nat.le_of_ble_eq_true rfl)) ⟨Nat.le_of_ble_eq_true rfl, Nat.le_of_ble_eq_true rfl⟩ (fun v_ Γ_ hp_ => ?_)
    obtain ⟨rfl, rfl⟩ := hp_
    show eZ x E _ [eLL q (m + 1) ys, rs] 22 [some (.ref q), some (.ref a)] [.ref i] 0 0
    exact z_aret (Γ := [eLL q (m + 1) ys]) C dJ4_removeLast_22 rfl (Or.inl ⟨_, rfl⟩) (Or.inr ⟨_, rfl⟩) (Nat.le_of_ble_eq_true rfl) (Nat.le_of_ble_eq_true rfl) ⟨rfl, rfl⟩
  · cases _h1

set_option maxHeartbeats 4000000 in
theorem m_LL_getFirst {l : Launch} (hl : l.stackTraces = false) (E : eEn) (q a i : Nat) (m : Int32) (ys : List (Nat × Nat)) : eMet l E yJ4_getFirst (ws_ yJ4_getFirst cJ4_getFirst 2 (some (.object "java/lang/Object"))) ({ frames := 0, cells := 0, slots := 0, locals := 0 }) [.ref q] [eLL q m ((a, i) :: ys)] (fun v Γ => v = some (.ref i) ∧ Γ = [eLL q m ((a, i) :: ys)]) := by
  refine eStart (cc := cJ4_getFirst) (nL := 2) (L := [some (.ref q), none]) hl (by decide) rfl (List.forall_mem_cons.mpr ⟨rfl, (fun _ h => absurd h List.not_mem_nil)⟩) (Nat.le_of_ble_eq_true rfl) ?_
  intro x rs C
  show eZ x E (eQ x E (fun v Γ => v = some (.ref i) ∧ Γ = [eLL q m ((a, i) :: ys)]) rs) [eLL q m ((a, i) :: ys), rs] 0 [some (.ref q), none] [] 0 0
  refine z_cut 0 (bs := [eO q 13 [.int m, .int (nI (ys.length + 1)), va_rf (some a), va_rf (eLst ys (some a))], eO a 14 [.ref i, va_rf (eHd ys none), va_rf none], eNs (some a) ys none]) rfl (by simp [eLL, eNs_app, eLst_app, eHd_app, eNs_nil, eNs_cons, eHd_nil, eHd_cons, eLst_nil, eLst_cons, e_rfs, e_rfn]) rfl ?_
  show eZ x E _ [eO q 13 [.int m, .int (nI (ys.length + 1)), va_rf (some a), va_rf (eLst ys (some a))], eO a 14 [.ref i, va_rf (eHd ys none), va_rf none], eNs (some a) ys none, rs] 0 [some (.ref q), none] [] 0 0
  refine z_aload_n C dJ4_getFirst_0 rfl rfl ?_
  refine z_get eK13 0 2 C dJ4_getFirst_1 rfl rfl q152 (eSame1 rfl) (by decide) rfl ?_
  refine z_astore_n (L2 := [some (.ref q), some (.ref a)]) C dJ4_getFirst_4 rfl (Nat.le_of_ble_eq_true rfl) rfl ?_
  refine z_aload_n C dJ4_getFirst_5 rfl rfl ?_
  refine z_ifnonnull (r := some a) 17 C dJ4_getFirst_6 (by decide) (fun nn_ _h1 => ?_) (fun _h1 => ?_)
  · refine z_aload_n C dJ4_getFirst_17 rfl rfl ?_
    refine z_get eK14 1 0 C dJ4_getFirst_18 rfl rfl q954 (eSame1 rfl) (by decide) rfl ?_
    refine z_join 3 (b := eLL q m ((a, i) :: ys)) (by simp [eLL, eNs_app, eLst_app, eHd_app, eNs_nil, eNs_cons, eHd_nil, eHd_cons, eLst_nil, eLst_cons, e_rfs, e_rfn]) rfl ?_
    show eZ x E _ [eLL q m ((a, i) :: ys), rs] 21 [some (.ref q), some (.ref a)] [.ref i] 0 0
    exact z_aret (Γ := [eLL q m ((a, i) :: ys)]) C dJ4_getFirst_21 rfl (Or.inl ⟨_, rfl⟩) (Or.inr ⟨_, rfl⟩) (Nat.le_of_ble_eq_true rfl) (Nat.le_of_ble_eq_true rfl) ⟨rfl, rfl⟩
  · cases _h1

set_option maxHeartbeats 4000000 in
theorem m_LL_getLast {l : Launch} (hl : l.stackTraces = false) (E : eEn) (q a i : Nat) (m : Int32) (ys : List (Nat × Nat)) : eMet l E yJ4_getLast (ws_ yJ4_getLast cJ4_getLast 2 (some (.object "java/lang/Object"))) ({ frames := 0, cells := 0, slots := 0, locals := 0 }) [.ref q] [eLL q m (ys ++ [(a, i)])] (fun v Γ => v = some (.ref i) ∧ Γ = [eLL q m (ys ++ [(a, i)])]) := by
  refine eStart (cc := cJ4_getLast) (nL := 2) (L := [some (.ref q), none]) hl (by decide) rfl (List.forall_mem_cons.mpr ⟨rfl, (fun _ h => absurd h List.not_mem_nil)⟩) (Nat.le_of_ble_eq_true rfl) ?_
  intro x rs C
  show eZ x E (eQ x E (fun v Γ => v = some (.ref i) ∧ Γ = [eLL q m (ys ++ [(a, i)])]) rs) [eLL q m (ys ++ [(a, i)]), rs] 0 [some (.ref q), none] [] 0 0
  refine z_cut 0 (bs := [eO q 13 [.int m, .int (nI (ys.length + 1)), va_rf (eHd (ys ++ [(a, i)]) none), va_rf (some a)], eNs none ys (some a), eO a 14 [.ref i, va_rf none, va_rf (eLst ys none)]]) rfl (by simp [eLL, eNs_app, eLst_app, eHd_app, eNs_nil, eNs_cons, eHd_nil, eHd_cons, eLst_nil, eLst_cons, e_rfs, e_rfn]) rfl ?_
  show eZ x E _ [eO q 13 [.int m, .int (nI (ys.length + 1)), va_rf (eHd (ys ++ [(a, i)]) none), va_rf (some a)], eNs none ys (some a), eO a 14 [.ref i, va_rf none, va_rf (eLst ys none)], rs] 0 [some (.ref q), none] [] 0 0
  refine z_aload_n C dJ4_getLast_0 rfl rfl ?_
  refine z_get eK13 0 3 C dJ4_getLast_1 rfl rfl q153 (eSame1 rfl) (by decide) rfl ?_
  refine z_astore_n (L2 := [some (.ref q), some (.ref a)]) C dJ4_getLast_4 rfl (Nat.le_of_ble_eq_true rfl) rfl ?_
  refine z_aload_n C dJ4_getLast_5 rfl rfl ?_
  refine z_ifnonnull (r := some a) 17 C dJ4_getLast_6 (by decide) (fun nn_ _h1 => ?_) (fun _h1 => ?_)
  · refine z_aload_n C dJ4_getLast_17 rfl rfl ?_
    refine z_get eK14 2 0 C dJ4_getLast_18 rfl rfl q954 (eSame1 rfl) (by decide) rfl ?_
    refine z_join 3 (b := eLL q m (ys ++ [(a, i)])) (by simp [eLL, eNs_app, eLst_app, eHd_app, eNs_nil, eNs_cons, eHd_nil, eHd_cons, eLst_nil, eLst_cons, e_rfs, e_rfn]) rfl ?_
    show eZ x E _ [eLL q m (ys ++ [(a, i)]), rs] 21 [some (.ref q), some (.ref a)] [.ref i] 0 0
    exact z_aret (Γ := [eLL q m (ys ++ [(a, i)])]) C dJ4_getLast_21 rfl (Or.inl ⟨_, rfl⟩) (Or.inr ⟨_, rfl⟩) (Nat.le_of_ble_eq_true rfl) (Nat.le_of_ble_eq_true rfl) ⟨rfl, rfl⟩
  · cases _h1

set_option maxHeartbeats 4000000 in
theorem m_LL_size {l : Launch} (hl : l.stackTraces = false) (E : eEn) (q : Nat) (m : Int32) (xs : List (Nat × Nat)) : eMet l E yJ4_size (ws_ yJ4_size cJ4_size 1 (some .int)) ({ frames := 0, cells := 0, slots := 0, locals := 0 }) [.ref q] [eLL q m xs] (fun v Γ => v = some (.int (nI xs.length)) ∧ Γ = [eLL q m xs]) := by
  refine eStart (cc := cJ4_size) (nL := 1) (L := [some (.ref q)]) hl (by decide) rfl (List.forall_mem_cons.mpr ⟨rfl, (fun _ h => absurd h List.not_mem_nil)⟩) (Nat.le_of_ble_eq_true rfl) ?_
  intro x rs C
  show eZ x E (eQ x E (fun v Γ => v = some (.int (nI xs.length)) ∧ Γ = [eLL q m xs]) rs) [eLL q m xs, rs] 0 [some (.ref q)] [] 0 0
  refine z_cut 0 (bs := [eO q 13 [.int m, .int (nI xs.length), va_rf (eHd xs none), va_rf (eLst xs none)], eNs none xs none]) rfl eLL_cut rfl ?_
  show eZ x E _ [eO q 13 [.int m, .int (nI xs.length), va_rf (eHd xs none), va_rf (eLst xs none)], eNs none xs none, rs] 0 [some (.ref q)] [] 0 0
  refine z_aload_n C dJ4_size_0 rfl rfl ?_
  refine z_get eK13 0 1 C dJ4_size_1 rfl rfl q150 (eSame1 rfl) (by decide) rfl ?_
  refine z_join 2 (b := eLL q m xs) (by simp [eLL]) rfl ?_
  show eZ x E _ [eLL q m xs, rs] 4 [some (.ref q)] [.int (nI xs.length)] 0 0
  exact z_ret (Γ := [eLL q m xs]) C dJ4_size_4 rfl rfl (Nat.le_of_ble_eq_true rfl) (Nat.le_of_ble_eq_true rfl) ⟨rfl, rfl⟩
