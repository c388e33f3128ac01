/-! ===== LinkedList: places, iterators ===== -/
set_option maxRecDepth 100000
def eIx (xs : List (Nat × Nat)) (i : Nat) : Option Nat := xs[i]?.map Prod.fst
theorem eHd_drop (xs : List (Nat × Nat)) (i : Nat) : eHd (xs.drop i) none = eIx xs i := by
  unfold eIx
  rw [← List.head?_drop]
  cases xs.drop i <;> rfl
theorem eIx_some {xs : List (Nat × Nat)} {i : Nat} (h : i < xs.length) : ∃ b j, xs[i]? = some (b, j) ∧ eIx xs i = some b := by
  refine ⟨(xs[i]).1, (xs[i]).2, by rw [List.getElem?_eq_getElem h], by unfold eIx; rw [List.getElem?_eq_getElem h]; rfl⟩
theorem eIx_of {xs : List (Nat × Nat)} {i b j : Nat} (h : xs[i]? = some (b, j)) : eIx xs i = some b := by unfold eIx; rw [h]; rfl
theorem eLst_take {xs : List (Nat × Nat)} {i : Nat} (h : i < xs.length) : eLst (xs.take (i + 1)) none = eIx xs i := by
  obtain ⟨b, j, h1, h2⟩ := eIx_some h
  rw [List.take_add_one, h1, eLst_app, h2]
  rfl
theorem eLst_ix {xs : List (Nat × Nat)} (h : 0 < xs.length) : eLst xs none = eIx xs (xs.length - 1) := by
  have h1 := eLst_take (xs := xs) (i := xs.length - 1) (by omega)
  rw [show xs.length - 1 + 1 = xs.length by omega, List.take_length] at h1
  exact h1
theorem eAt_split {xs : List (Nat × Nat)} {i : Nat} {q : Nat × Nat} (h : xs[i]? = some q) : xs = xs.take i ++ q :: xs.drop (i + 1) := by
  obtain ⟨h1, h2⟩ := List.getElem?_eq_some_iff.mp h
  conv => lhs; rw [← List.take_append_drop i xs]
  rw [List.drop_eq_getElem_cons h1, h2]
theorem eLL_at {q : Nat} {m : Int32} {xs : List (Nat × Nat)} {i b j : Nat} (h : xs[i]? = some (b, j)) : eLL q m xs = [eO q 13 [.int m, .int (nI xs.length), va_rf (eHd xs none), va_rf (eLst xs none)], eNs none (xs.take i) (some b), eO b 14 [.ref j, va_rf (eIx xs (i + 1)), va_rf (eLst (xs.take i) none)], eNs (some b) (xs.drop (i + 1)) none].flatten := by
  have h1 := eAt_split h
  have h2 : eNs none xs none = eNs none (xs.take i) (some b) ++ (b, .inr (14, [.ref j, va_rf (eIx xs (i + 1)), va_rf (eLst (xs.take i) none)])) :: eNs (some b) (xs.drop (i + 1)) none := by
    conv => lhs; rw [h1]
    rw [eNs_app, eNs_cons, eHd_drop, eHd_cons]
  simp [eLL, h2]

set_option maxHeartbeats 4000000 in
theorem m_LL_isEmpty {l : Launch} (hl : l.stackTraces = false) (E : eEn) (q : Nat) (m : Int32) (xs : List (Nat × Nat)) (hx : xs.length < 1000000) : eMet l E yJ0_isEmpty (ws_ yJ0_isEmpty cJ0_isEmpty 1 (some .boolean)) ({ frames := 1, cells := 0, slots := 0, locals := 20 }) [.ref q] [eLL q m xs] (fun v Γ => v = some (.int (eB xs.isEmpty)) ∧ Γ = [eLL q m xs]) := by
  refine eStart (cc := cJ0_isEmpty) (nL := 1) (L := [some (.ref q)]) hl (by decide) rfl (List.forall_mem_cons.mpr ⟨rfl, (fun _ h => absurd h List.not_mem_nil)⟩) (Nat.le_of_ble_eq_true rfl) ?_
  intro x rs C
  show eZ x E (eQ x E (fun v Γ => v = some (.int (eB xs.isEmpty)) ∧ Γ = [eLL q m xs]) rs) [eLL q m xs, rs] 0 [some (.ref q)] [] 0 0
  refine z_aload_n C dJ0_isEmpty_0 rfl rfl ?_
  refine z_callU (r := (RJ4, TJ4, 4)) (As := []) (rest := []) (Δ := [rs]) [0] [1] 0 (m_LL_size hl E q m xs) C dJ0_isEmpty_1 rfl rfl (eIn (i := 0) rfl eLL_mem) rfl rfl (eCA (owner := "java/util/AbstractCollection") q1042 q1946 q1949 q471 q55 q472 q466 (by decide +kernel)) rfl rfl rfl rfl ⟨Nat.le_of_ble_eq_true rfl, Nat.le_of_ble_eq_true rfl⟩ (Nat.le_trans eS0 (Nat.le_of_ble_eq_true rfl)) ⟨Nat.le_of_ble_eq_true rfl, Nat.le_of_ble_eq_true rfl⟩ (fun v_ Γ_ hp_ => ?_)
  obtain ⟨rfl, rfl⟩ := hp_
  show eZ x E _ [eLL q m xs, rs] 4 [some (.ref q)] [.int (nI xs.length)] 0 0
  refine z_if_ne 11 C dJ0_isEmpty_4 (by decide) (fun h1 => ?_) (fun h1 => ?_)
  · refine z_iconst (v := 0) C dJ0_isEmpty_11 (by decide) ?_
    exact z_ret (Γ := [eLL q m xs]) C dJ0_isEmpty_12 rfl (by decide) (Nat.le_of_ble_eq_true rfl) (Nat.le_of_ble_eq_true rfl) ⟨by rw [show xs.isEmpty = false by cases xs; exact absurd rfl h1; rfl]; rfl, rfl⟩
  · refine z_iconst (v := 1) C dJ0_isEmpty_7 (by decide) ?_
    refine z_goto 12 C dJ0_isEmpty_8 (by decide) ?_
    exact z_ret (Γ := [eLL q m xs]) C dJ0_isEmpty_12 rfl (by decide) (Nat.le_of_ble_eq_true rfl) (Nat.le_of_ble_eq_true rfl) ⟨by rw [show xs.isEmpty = true by cases xs; rfl; exact absurd h1 (nI_ne0 (Nat.succ_pos _) (by omega))]; rfl, rfl⟩

set_option maxHeartbeats 4000000 in
theorem m_LL_node {l : Launch} (hl : l.stackTraces = false) (E : eEn) (q a j N : Nat) (m : Int32) (xs : List (Nat × Nat)) (hx : xs.length < 1000000) (h : xs[N]? = some (a, j)) : eMet l E yJ4_node (ws_ yJ4_node cJ4_node 4 (some (.object "java/util/LinkedList$Node"))) ({ frames := 0, cells := 0, slots := 0, locals := 0 }) [.ref q, .int (nI N)] [eLL q m xs] (fun v Γ => v = some (.ref a) ∧ Γ = [eLL q m xs]) := by
  refine eStart (cc := cJ4_node) (nL := 4) (L := [some (.ref q), some (.int (nI N)), none, none]) hl (by decide) rfl (List.forall_mem_cons.mpr ⟨rfl, (List.forall_mem_cons.mpr ⟨rfl, (fun _ h => absurd h List.not_mem_nil)⟩)⟩) (Nat.le_of_ble_eq_true rfl) ?_
  intro x rs C
  show eZ x E (eQ x E (fun v Γ => v = some (.ref a) ∧ Γ = [eLL q m xs]) rs) [eLL q m xs, rs] 0 [some (.ref q), some (.int (nI N)), none, none] [] 0 0
  have hN : N < xs.length := (List.getElem?_eq_some_iff.mp h).1
  have K1 : ∀ d i : Nat, N - i = d → i ≤ N → eZ x E (eQ x E (fun v Γ => v = some (.ref a) ∧ Γ = [eLL q m xs]) rs) [eLL q m xs, rs] 17 [some (.ref q), some (.int (nI N)), some (va_rf (eIx xs i)), some (.int (nI i))] [] 0 0 := by
    intro d
    induction d with
    | zero =>
        intro i hd hi
        obtain rfl : i = N := by omega
        rw [eIx_of h]
        refine z_iload_n C dJ4_node_17 rfl rfl ?_
        refine z_iload_n C dJ4_node_18 rfl rfl ?_
        refine z_icmp_ge 33 C dJ4_node_19 (by decide) (fun h1 => ?_) (fun h1 => ?_)
        · refine z_aload_n C dJ4_node_33 rfl rfl ?_
          exact z_aret (Γ := [eLL q m xs]) C dJ4_node_34 rfl (Or.inl ⟨_, rfl⟩) (Or.inr ⟨_, rfl⟩) (Nat.le_of_ble_eq_true rfl) (Nat.le_of_ble_eq_true rfl) ⟨rfl, rfl⟩
        · exact absurd (nI_le (Nat.le_refl i) (by omega)) h1
    | succ d ih =>
        intro i hd hi
        obtain ⟨b, j, hb, hb2⟩ := eIx_some (xs := xs) (i := i) (by omega)
        rw [hb2]
        refine z_iload_n C dJ4_node_17 rfl rfl ?_
        refine z_iload_n C dJ4_node_18 rfl rfl ?_
        refine z_icmp_ge 33 C dJ4_node_19 (by decide) (fun h1 => ?_) (fun h1 => ?_)
        · exact absurd h1 (nI_ge (by omega) (by omega))
        · refine z_cut 0 (bs := [eO q 13 [.int m, .int (nI xs.length), va_rf (eHd xs none), va_rf (eLst xs none)], eNs none (xs.take i) (some b), eO b 14 [.ref j, va_rf (eIx xs (i + 1)), va_rf (eLst (xs.take i) none)], eNs (some b) (xs.drop (i + 1)) none]) rfl (eLL_at hb) rfl ?_
          show eZ x E _ [eO q 13 [.int m, .int (nI xs.length), va_rf (eHd xs none), va_rf (eLst xs none)], eNs none (xs.take i) (some b), eO b 14 [.ref j, va_rf (eIx xs (i + 1)), va_rf (eLst (xs.take i) none)], eNs (some b) (xs.drop (i + 1)) none, rs] 22 [some (.ref q), some (.int (nI N)), some (va_rf (some b)), some (.int (nI i))] [] 0 0
          refine z_aload_n C dJ4_node_22 rfl rfl ?_
          refine z_get eK14 2 1 C dJ4_node_23 rfl rfl q957 (eSame1 rfl) (by decide) rfl ?_
          refine z_astore_nR (L2 := [some (.ref q), some (.int (nI N)), some (va_rf (eIx xs (i + 1))), some (.int (nI i))]) C dJ4_node_26 rfl (Nat.le_of_ble_eq_true rfl) rfl ?_
          refine z_iinc (v := nI (i + 1)) (L2 := [some (.ref q), some (.int (nI N)), some (va_rf (eIx xs (i + 1))), some (.int (nI (i + 1)))]) C dJ4_node_27 rfl (nI_1 i) rfl ?_
          refine z_goto 17 C dJ4_node_30 (by decide) ?_
          refine z_join 4 (b := eLL q m xs) (eLL_at hb).symm rfl ?_
          show eZ x E _ [eLL q m xs, rs] 17 [some (.ref q), some (.int (nI N)), some (va_rf (eIx xs (i + 1))), some (.int (nI (i + 1)))] [] 0 0
          exact ih (i + 1) (by omega) (by omega)
  have K2 : ∀ d i : Nat, i - N = d → N ≤ i ∧ i < xs.length → eZ x E (eQ x E (fun v Γ => v = some (.ref a) ∧ Γ = [eLL q m xs]) rs) [eLL q m xs, rs] 47 [some (.ref q), some (.int (nI N)), some (va_rf (eIx xs i)), some (.int (nI i))] [] 0 0 := by
    intro d
    induction d with
    | zero =>
        intro i hd hi
        obtain rfl : i = N := by omega
        rw [eIx_of h]
        refine z_iload_n C dJ4_node_47 rfl rfl ?_
        refine z_iload_n C dJ4_node_48 rfl rfl ?_
        refine z_icmp_le 63 C dJ4_node_49 (by decide) (fun h1 => ?_) (fun h1 => ?_)
        · refine z_aload_n C dJ4_node_63 rfl rfl ?_
          exact z_aret (Γ := [eLL q m xs]) C dJ4_node_64 rfl (Or.inl ⟨_, rfl⟩) (Or.inr ⟨_, rfl⟩) (Nat.le_of_ble_eq_true rfl) (Nat.le_of_ble_eq_true rfl) ⟨rfl, rfl⟩
        · exact absurd (nI_le (Nat.le_refl i) (by omega)) h1
    | succ d ih =>
        intro i hd hi
        obtain ⟨b, j, hb, hb2⟩ := eIx_some (xs := xs) (i := i) (by omega)
        rw [hb2]
        refine z_iload_n C dJ4_node_47 rfl rfl ?_
        refine z_iload_n C dJ4_node_48 rfl rfl ?_
        refine z_icmp_le 63 C dJ4_node_49 (by decide) (fun h1 => ?_) (fun h1 => ?_)
        · exact absurd h1 (nI_ge (by omega) (by omega))
        · refine z_cut 0 (bs := [eO q 13 [.int m, .int (nI xs.length), va_rf (eHd xs none), va_rf (eLst xs none)], eNs none (xs.take i) (some b), eO b 14 [.ref j, va_rf (eIx xs (i + 1)), va_rf (eLst (xs.take i) none)], eNs (some b) (xs.drop (i + 1)) none]) rfl (eLL_at hb) rfl ?_
          show eZ x E _ [eO q 13 [.int m, .int (nI xs.length), va_rf (eHd xs none), va_rf (eLst xs none)], eNs none (xs.take i) (some b), eO b 14 [.ref j, va_rf (eIx xs (i + 1)), va_rf (eLst (xs.take i) none)], eNs (some b) (xs.drop (i + 1)) none, rs] 52 [some (.ref q), some (.int (nI N)), some (va_rf (some b)), some (.int (nI i))] [] 0 0
          obtain ⟨i, rfl⟩ : ∃ z, i = z + 1 := ⟨i - 1, by omega⟩
          rw [eLst_take (xs := xs) (i := i) (by omega)]
          show eZ x E _ [eO q 13 [.int m, .int (nI xs.length), va_rf (eHd xs none), va_rf (eLst xs none)], eNs none (xs.take (i + 1)) (some b), eO b 14 [.ref j, va_rf (eIx xs (i + 1 + 1)), va_rf (eIx xs i)], eNs (some b) (xs.drop (i + 1 + 1)) none, rs] 52 [some (.ref q), some (.int (nI N)), some (va_rf (some b)), some (.int (nI (i + 1)))] [] 0 0
          refine z_aload_n C dJ4_node_52 rfl rfl ?_
          refine z_get eK14 2 2 C dJ4_node_53 rfl rfl q959 (eSame1 rfl) (by decide) rfl ?_
          refine z_astore_nR (L2 := [some (.ref q), some (.int (nI N)), some (va_rf (eIx xs i)), some (.int (nI (i + 1)))]) C dJ4_node_56 rfl (Nat.le_of_ble_eq_true rfl) rfl ?_
          refine z_iinc (v := nI i) (L2 := [some (.ref q), some (.int (nI N)), some (va_rf (eIx xs i)), some (.int (nI i))]) C dJ4_node_57 rfl (pk_m1 i) rfl ?_
          refine z_goto 47 C dJ4_node_60 (by decide) ?_
          refine z_join 4 (b := eLL q m xs) (by rw [eLL_at hb, eLst_take (xs := xs) (i := i) (by omega)]; rfl) rfl ?_
          show eZ x E _ [eLL q m xs, rs] 47 [some (.ref q), some (.int (nI N)), some (va_rf (eIx xs i)), some (.int (nI i))] [] 0 0
          exact ih i (by omega) (by omega)
  refine z_cut 0 (bs := [eO q 13 [.int m, .int (nI xs.length), va_rf (eHd xs none), va_rf (eLst xs none)], eNs none xs none]) rfl eLL_cut rfl ?_
  show eZ x E _ [eO q 13 [.int m, .int (nI xs.length), va_rf (eHd xs none), va_rf (eLst xs none)], eNs none xs none, rs] 0 [some (.ref q), some (.int (nI N)), none, none] [] 0 0
  refine z_iload_n C dJ4_node_0 rfl rfl ?_
  refine z_aload_n C dJ4_node_1 rfl rfl ?_
  refine z_get eK13 0 1 C dJ4_node_2 rfl rfl q150 (eSame1 rfl) (by decide) rfl ?_
  refine z_iconst (v := 1) C dJ4_node_5 (by decide) ?_
  refine z_ishr (w := (nI xs.length) >>> (1 &&& 31)) C dJ4_node_6 rfl ?_
  refine z_icmp_ge 35 C dJ4_node_7 (by decide) (fun _h => ?_) (fun _h => ?_)
  · refine z_aload_n C dJ4_node_35 rfl rfl ?_
    refine z_get eK13 0 3 C dJ4_node_36 rfl rfl q153 (eSame1 rfl) (by decide) rfl ?_
    refine z_astore_nR (L2 := [some (.ref q), some (.int (nI N)), some (va_rf (eLst xs none)), none]) C dJ4_node_39 rfl (Nat.le_of_ble_eq_true rfl) rfl ?_
    refine z_aload_n C dJ4_node_40 rfl rfl ?_
    refine z_get eK13 0 1 C dJ4_node_41 rfl rfl q150 (eSame1 rfl) (by decide) rfl ?_
    refine z_iconst (v := 1) C dJ4_node_44 (by decide) ?_
    refine z_isub (w := nI (xs.length - 1)) C dJ4_node_45 (pk_sub (b := 1) (by omega)) ?_
    refine z_istore_n (L2 := [some (.ref q), some (.int (nI N)), some (va_rf (eLst xs none)), some (.int (nI (xs.length - 1)))]) C dJ4_node_46 rfl (Nat.le_of_ble_eq_true rfl) rfl ?_
    refine z_join 2 (b := eLL q m xs) (by simp [eLL]) rfl ?_
    show eZ x E _ [eLL q m xs, rs] 47 [some (.ref q), some (.int (nI N)), some (va_rf (eLst xs none)), some (.int (nI (xs.length - 1)))] [] 0 0
    rw [eLst_ix (by omega)]
    exact K2 _ (xs.length - 1) rfl (by omega)
  · refine z_aload_n C dJ4_node_10 rfl rfl ?_
    refine z_get eK13 0 2 C dJ4_node_11 rfl rfl q152 (eSame1 rfl) (by decide) rfl ?_
    refine z_astore_nR (L2 := [some (.ref q), some (.int (nI N)), some (va_rf (eHd xs none)), none]) C dJ4_node_14 rfl (Nat.le_of_ble_eq_true rfl) rfl ?_
    refine z_iconst (v := 0) C dJ4_node_15 (by decide) ?_
    refine z_istore_n (L2 := [some (.ref q), some (.int (nI N)), some (va_rf (eHd xs none)), some (.int 0)]) C dJ4_node_16 rfl (Nat.le_of_ble_eq_true rfl) rfl ?_
    refine z_join 2 (b := eLL q m xs) (by simp [eLL]) rfl ?_
    show eZ x E _ [eLL q m xs, rs] 17 [some (.ref q), some (.int (nI N)), some (va_rf (eHd xs none)), some (.int 0)] [] 0 0
    rw [show eHd xs none = eIx xs 0 from eHd_drop xs 0]
    exact K1 _ 0 rfl (by omega)

set_option maxHeartbeats 4000000 in
theorem m_LL_isElementIndex {l : Launch} (hl : l.stackTraces = false) (E : eEn) (q N : Nat) (m : Int32) (xs : List (Nat × Nat)) (hx : xs.length < 1000000) (hN : N < xs.length) : eMet l E yJ4_isElementIndex (ws_ yJ4_isElementIndex cJ4_isElementIndex 2 (some .boolean)) ({ frames := 0, cells := 0, slots := 0, locals := 0 }) [.ref q, .int (nI N)] [eLL q m xs] (fun v Γ => v = some (.int 1) ∧ Γ = [eLL q m xs]) := by
  refine eStart (cc := cJ4_isElementIndex) (nL := 2) (L := [some (.ref q), some (.int (nI N))]) hl (by decide) rfl (List.forall_mem_cons.mpr ⟨rfl, (List.forall_mem_cons.mpr ⟨rfl, (fun _ h => absurd h List.not_mem_nil)⟩)⟩) (Nat.le_of_ble_eq_true rfl) ?_
  intro x rs C
  show eZ x E (eQ x E (fun v Γ => v = some (.int 1) ∧ Γ = [eLL q m xs]) rs) [eLL q m xs, rs] 0 [some (.ref q), some (.int (nI N))] [] 0 0
  refine z_iload_n C dJ4_isElementIndex_0 rfl rfl ?_
  refine z_if_lt 16 C dJ4_isElementIndex_1 (by decide) (fun h1 => ?_) (fun h1 => ?_)
  · exact absurd h1 (nI_pos (by omega))
  · refine z_cut 0 (bs := [eO q 13 [.int m, .int (nI xs.length), va_rf (eHd xs none), va_rf (eLst xs none)], eNs none xs none]) rfl eLL_cut rfl ?_
    show eZ x E _ [eO q 13 [.int m, .int (nI xs.length), va_rf (eHd xs none), va_rf (eLst xs none)], eNs none xs none, rs] 4 [some (.ref q), some (.int (nI N))] [] 0 0
    refine z_iload_n C dJ4_isElementIndex_4 rfl rfl ?_
    refine z_aload_n C dJ4_isElementIndex_5 rfl rfl ?_
    refine z_get eK13 0 1 C dJ4_isElementIndex_6 rfl rfl q150 (eSame1 rfl) (by decide) rfl ?_
    refine z_icmp_ge 16 C dJ4_isElementIndex_9 (by decide) (fun h2 => ?_) (fun h2 => ?_)
    · exact absurd h2 (nI_ge hN (by omega))
    · refine z_iconst (v := 1) C dJ4_isElementIndex_12 (by decide) ?_
      refine z_goto 17 C dJ4_isElementIndex_13 (by decide) ?_
      refine z_join 2 (b := eLL q m xs) (by simp [eLL]) rfl ?_
      show eZ x E _ [eLL q m xs, rs] 17 [some (.ref q), some (.int (nI N))] [.int 1] 0 0
      exact z_ret (Γ := [eLL q m xs]) C dJ4_isElementIndex_17 rfl (by decide) (Nat.le_of_ble_eq_true rfl) (Nat.le_of_ble_eq_true rfl) ⟨rfl, rfl⟩

set_option maxHeartbeats 4000000 in
theorem m_LL_checkElementIndex {l : Launch} (hl : l.stackTraces = false) (E : eEn) (q N : Nat) (m : Int32) (xs : List (Nat × Nat)) (hx : xs.length < 1000000) (hN : N < xs.length) : eMet l E yJ4_checkElementIndex (ws_ yJ4_checkElementIndex cJ4_checkElementIndex 2 none) ({ frames := 1, cells := 0, slots := 0, locals := 21 }) [.ref q, .int (nI N)] [eLL q m xs] (fun v Γ => v = none ∧ Γ = [eLL q m xs]) := by
  refine eStart (cc := cJ4_checkElementIndex) (nL := 2) (L := [some (.ref q), some (.int (nI N))]) hl (by decide) rfl (List.forall_mem_cons.mpr ⟨rfl, (List.forall_mem_cons.mpr ⟨rfl, (fun _ h => absurd h List.not_mem_nil)⟩)⟩) (Nat.le_of_ble_eq_true rfl) ?_
  intro x rs C
  show eZ x E (eQ x E (fun v Γ => v = none ∧ Γ = [eLL q m xs]) rs) [eLL q m xs, rs] 0 [some (.ref q), some (.int (nI N))] [] 0 0
  refine z_aload_n C dJ4_checkElementIndex_0 rfl rfl ?_
  refine z_iload_n C dJ4_checkElementIndex_1 rfl rfl ?_
  refine z_callV (r := (RJ4, TJ4, 4)) (As := [.int (nI N)]) (rest := []) (Δ := [rs]) [0] [1] 1 (m_LL_isElementIndex hl E q N m xs hx hN) C dJ4_checkElementIndex_2 rfl rfl (eIn (i := 0) rfl eLL_mem) rfl rfl q525 q527 qs5 q55 q528 (by decide +kernel) rfl rfl rfl rfl ⟨Nat.le_of_ble_eq_true rfl, Nat.le_of_ble_eq_true rfl⟩ (Nat.le_trans eS0 (Nat.le_of_ble_eq_true rfl)) ⟨Nat.le_of_ble_eq_true rfl, Nat.le_of_ble_eq_true rfl⟩ (fun v_ Γ_ hp_ => ?_)
  obtain ⟨rfl, rfl⟩ := hp_
  show eZ x E _ [eLL q m xs, rs] 5 [some (.ref q), some (.int (nI N))] [.int 1] 0 0
  refine z_if_ne 21 C dJ4_checkElementIndex_5 (by decide) (fun h1 => ?_) (fun h1 => ?_)
  · exact z_vret (Γ := [eLL q m xs]) C dJ4_checkElementIndex_21 rfl (Nat.le_of_ble_eq_true rfl) (Nat.le_of_ble_eq_true rfl) ⟨rfl, rfl⟩
  · exact absurd h1 (by decide)

set_option maxHeartbeats 4000000 in
theorem m_LL_get {l : Launch} (hl : l.stackTraces = false) (E : eEn) (q a j N : Nat) (m : Int32) (xs : List (Nat × Nat)) (hx : xs.length < 1000000) (h : xs[N]? = some (a, j)) : eMet l E yJ4_get (ws_ yJ4_get cJ4_get 2 (some (.object "java/lang/Object"))) ({ frames := 2, cells := 0, slots := 0, locals := 42 }) [.ref q, .int (nI N)] [eLL q m xs] (fun v Γ => v = some (.ref j) ∧ Γ = [eLL q m xs]) := by
  refine eStart (cc := cJ4_get) (nL := 2) (L := [some (.ref q), some (.int (nI N))]) hl (by decide) rfl (List.forall_mem_cons.mpr ⟨rfl, (List.forall_mem_cons.mpr ⟨rfl, (fun _ h => absurd h List.not_mem_nil)⟩)⟩) (Nat.le_of_ble_eq_true rfl) ?_
  intro x rs C
  show eZ x E (eQ x E (fun v Γ => v = some (.ref j) ∧ Γ = [eLL q m xs]) rs) [eLL q m xs, rs] 0 [some (.ref q), some (.int (nI N))] [] 0 0
  have hN : N < xs.length := (List.getElem?_eq_some_iff.mp h).1
  refine z_aload_n C dJ4_get_0 rfl rfl ?_
  refine z_iload_n C dJ4_get_1 rfl rfl ?_
  refine z_callV (r := (RJ4, TJ4, 4)) (As := [.int (nI N)]) (rest := []) (Δ := [rs]) [0] [1] 1 (m_LL_checkElementIndex hl E q N m xs hx hN) C dJ4_get_2 rfl rfl (eIn (i := 0) rfl eLL_mem) rfl rfl q521 q523 qs4 q55 q524 (by decide +kernel) rfl rfl rfl rfl ⟨Nat.le_of_ble_eq_true rfl, Nat.le_of_ble_eq_true rfl⟩ (Nat.le_trans eS0 (Nat.le_of_ble_eq_true rfl)) ⟨Nat.le_of_ble_eq_true rfl, Nat.le_of_ble_eq_true rfl⟩ (fun v_ Γ_ hp_ => ?_)
  obtain ⟨rfl, rfl⟩ := hp_
  show eZ x E _ [eLL q m xs, rs] 5 [some (.ref q), some (.int (nI N))] [] 0 0
  refine z_aload_n C dJ4_get_5 rfl rfl ?_
  refine z_iload_n C dJ4_get_6 rfl rfl ?_
  refine z_callV (r := (RJ4, TJ4, 4)) (As := [.int (nI N)]) (rest := []) (Δ := [rs]) [0] [1] 1 (m_LL_node hl E q a j N m xs hx h) C dJ4_get_7 rfl rfl (eIn (i := 0) rfl eLL_mem) rfl rfl q529 q530 q531 q55 q532 (by decide +kernel) rfl rfl rfl rfl ⟨Nat.le_of_ble_eq_true rfl, Nat.le_of_ble_eq_true rfl⟩ (Nat.le_trans eS0 (Nat.le_of_ble_eq_true rfl)) ⟨Nat.le_of_ble_eq_true rfl, Nat.le_of_ble_eq_true rfl⟩ (fun v_ Γ_ hp_ => ?_)
  obtain ⟨rfl, rfl⟩ := hp_
  show eZ x E _ [eLL q m xs, rs] 10 [some (.ref q), some (.int (nI N))] [.ref a] 0 0
  refine z_cut 0 (bs := [eO q 13 [.int m, .int (nI xs.length), va_rf (eHd xs none), va_rf (eLst xs none)], eNs none (xs.take N) (some a), eO a 14 [.ref j, va_rf (eIx xs (N + 1)), va_rf (eLst (xs.take N) none)], eNs (some a) (xs.drop (N + 1)) none]) rfl (eLL_at h) rfl ?_
  show eZ x E _ [eO q 13 [.int m, .int (nI xs.length), va_rf (eHd xs none), va_rf (eLst xs none)], eNs none (xs.take N) (some a), eO a 14 [.ref j, va_rf (eIx xs (N + 1)), va_rf (eLst (xs.take N) none)], eNs (some a) (xs.drop (N + 1)) none, rs] 10 [some (.ref q), some (.int (nI N))] [.ref a] 0 0
  refine z_get eK14 2 0 C dJ4_get_10 rfl rfl q954 (eSame1 rfl) (by decide) rfl ?_
  refine z_join 4 (b := eLL q m xs) (eLL_at h).symm rfl ?_
  show eZ x E _ [eLL q m xs, rs] 13 [some (.ref q), some (.int (nI N))] [.ref j] 0 0
  exact z_aret (Γ := [eLL q m xs]) C dJ4_get_13 rfl (Or.inl ⟨_, rfl⟩) (Or.inr ⟨_, rfl⟩) (Nat.le_of_ble_eq_true rfl) (Nat.le_of_ble_eq_true rfl) ⟨rfl, rfl⟩

set_option maxHeartbeats 4000000 in
theorem m_LL_isPositionIndex {l : Launch} (hl : l.stackTraces = false) (E : eEn) (q : Nat) (m : Int32) (xs : List (Nat × Nat)) (hx : xs.length < 1000000) : eMet l E yJ4_isPositionIndex (ws_ yJ4_isPositionIndex cJ4_isPositionIndex 2 (some .boolean)) ({ frames := 0, cells := 0, slots := 0, locals := 0 }) [.ref q, .int 0] [eLL q m xs] (fun v Γ => v = some (.int 1) ∧ Γ = [eLL q m xs]) := by
  refine eStart (cc := cJ4_isPositionIndex) (nL := 2) (L := [some (.ref q), some (.int 0)]) hl (by decide) rfl (List.forall_mem_cons.mpr ⟨rfl, (List.forall_mem_cons.mpr ⟨rfl, (fun _ h => absurd h List.not_mem_nil)⟩)⟩) (Nat.le_of_ble_eq_true rfl) ?_
  intro x rs C
  show eZ x E (eQ x E (fun v Γ => v = some (.int 1) ∧ Γ = [eLL q m xs]) rs) [eLL q m xs, rs] 0 [some (.ref q), some (.int 0)] [] 0 0
  refine z_iload_n C dJ4_isPositionIndex_0 rfl rfl ?_
  refine z_if_lt 16 C dJ4_isPositionIndex_1 (by decide) (fun h1 => ?_) (fun h1 => ?_)
  · exact absurd h1 (by decide)
  · refine z_cut 0 (bs := [eO q 13 [.int m, .int (nI xs.length), va_rf (eHd xs none), va_rf (eLst xs none)], eNs none xs none]) rfl eLL_cut rfl ?_
    show eZ x E _ [eO q 13 [.int m, .int (nI xs.length), va_rf (eHd xs none), va_rf (eLst xs none)], eNs none xs none, rs] 4 [some (.ref q), some (.int 0)] [] 0 0
    refine z_iload_n C dJ4_isPositionIndex_4 rfl rfl ?_
    refine z_aload_n C dJ4_isPositionIndex_5 rfl rfl ?_
    refine z_get eK13 0 1 C dJ4_isPositionIndex_6 rfl rfl q150 (eSame1 rfl) (by decide) rfl ?_
    refine z_icmp_gt 16 C dJ4_isPositionIndex_9 (by decide) (fun h2 => ?_) (fun h2 => ?_)
    · exact absurd h2 (nI_pos (by omega))
    · refine z_iconst (v := 1) C dJ4_isPositionIndex_12 (by decide) ?_
      refine z_goto 17 C dJ4_isPositionIndex_13 (by decide) ?_
      refine z_join 2 (b := eLL q m xs) (by simp [eLL]) rfl ?_
      show eZ x E _ [eLL q m xs, rs] 17 [some (.ref q), some (.int 0)] [.int 1] 0 0
      exact z_ret (Γ := [eLL q m xs]) C dJ4_isPositionIndex_17 rfl (by decide) (Nat.le_of_ble_eq_true rfl) (Nat.le_of_ble_eq_true rfl) ⟨rfl, rfl⟩

set_option maxHeartbeats 4000000 in
theorem m_LL_checkPositionIndex {l : Launch} (hl : l.stackTraces = false) (E : eEn) (q : Nat) (m : Int32) (xs : List (Nat × Nat)) (hx : xs.length < 1000000) : eMet l E yJ4_checkPositionIndex (ws_ yJ4_checkPositionIndex cJ4_checkPositionIndex 2 none) ({ frames := 1, cells := 0, slots := 0, locals := 21 }) [.ref q, .int 0] [eLL q m xs] (fun v Γ => v = none ∧ Γ = [eLL q m xs]) := by
  refine eStart (cc := cJ4_checkPositionIndex) (nL := 2) (L := [some (.ref q), some (.int 0)]) hl (by decide) rfl (List.forall_mem_cons.mpr ⟨rfl, (List.forall_mem_cons.mpr ⟨rfl, (fun _ h => absurd h List.not_mem_nil)⟩)⟩) (Nat.le_of_ble_eq_true rfl) ?_
  intro x rs C
  show eZ x E (eQ x E (fun v Γ => v = none ∧ Γ = [eLL q m xs]) rs) [eLL q m xs, rs] 0 [some (.ref q), some (.int 0)] [] 0 0
  refine z_aload_n C dJ4_checkPositionIndex_0 rfl rfl ?_
  refine z_iload_n C dJ4_checkPositionIndex_1 rfl rfl ?_
  refine z_callV (r := (RJ4, TJ4, 4)) (As := [.int 0]) (rest := []) (Δ := [rs]) [0] [1] 1 (m_LL_isPositionIndex hl E q m xs hx) C dJ4_checkPositionIndex_2 rfl rfl (eIn (i := 0) rfl eLL_mem) rfl rfl q865 q867 qs9 q55 q868 (by decide +kernel) rfl rfl rfl rfl ⟨Nat.le_of_ble_eq_true rfl, Nat.le_of_ble_eq_true rfl⟩ (Nat.le_trans eS0 (Nat.le_of_ble_eq_true rfl)) ⟨Nat.le_of_ble_eq_true rfl, Nat.le_of_ble_eq_true rfl⟩ (fun v_ Γ_ hp_ => ?_)
  obtain ⟨rfl, rfl⟩ := hp_
  show eZ x E _ [eLL q m xs, rs] 5 [some (.ref q), some (.int 0)] [.int 1] 0 0
  refine z_if_ne 21 C dJ4_checkPositionIndex_5 (by decide) (fun h1 => ?_) (fun h1 => ?_)
  · exact z_vret (Γ := [eLL q m xs]) C dJ4_checkPositionIndex_21 rfl (Nat.le_of_ble_eq_true rfl) (Nat.le_of_ble_eq_true rfl) ⟨rfl, rfl⟩
  · exact absurd h1 (by decide)

set_option maxHeartbeats 4000000 in
theorem m_LItr_init {l : Launch} (hl : l.stackTraces = false) (E : eEn) (it q : Nat) (m : Int32) (xs : List (Nat × Nat)) (hx : xs.length < 1000000) : eMet l E yJ23_init (ws_ yJ23_init cJ23_init 3 none) ({ frames := 1, cells := 0, slots := 0, locals := 23 }) [.ref it, .ref q, .int 0] [eO it 15 [.null, .null, .int 0, .int 0, .null], eLL q m xs] (fun v Γ => v = none ∧ Γ = [eO it 15 [va_rf none, va_rf (eHd xs none), .int 0, .int m, .ref q], eLL q m xs]) := by
  refine eStart (cc := cJ23_init) (nL := 3) (L := [some (.ref it), some (.ref q), some (.int 0)]) hl (by decide) rfl (List.forall_mem_cons.mpr ⟨rfl, (List.forall_mem_cons.mpr ⟨rfl, (List.forall_mem_cons.mpr ⟨rfl, (fun _ h => absurd h List.not_mem_nil)⟩)⟩)⟩) (Nat.le_of_ble_eq_true rfl) ?_
  intro x rs C
  show eZ x E (eQ x E (fun v Γ => v = none ∧ Γ = [eO it 15 [va_rf none, va_rf (eHd xs none), .int 0, .int m, .ref q], eLL q m xs]) rs) [eO it 15 [.null, .null, .int 0, .int 0, .null], eLL q m xs, rs] 0 [some (.ref it), some (.ref q), some (.int 0)] [] 0 0
  rcases xs with _ | ⟨⟨b, j⟩, ys⟩
  · refine z_cut 1 (bs := [eO q 13 [.int m, .int (nI ([]).length), va_rf (eHd ([]) none), va_rf (eLst ([]) none)], eNs none ([]) none]) rfl eLL_cut rfl ?_
    show eZ x E _ [eO it 15 [.null, .null, .int 0, .int 0, .null], eO q 13 [.int m, .int (nI ([]).length), va_rf (eHd ([]) none), va_rf (eLst ([]) none)], eNs none ([]) none, rs] 0 [some (.ref it), some (.ref q), some (.int 0)] [] 0 0
    refine z_aload_n C dJ23_init_0 rfl rfl ?_
    refine z_aload_n C dJ23_init_1 rfl rfl ?_
    refine z_putF eK15 0 4 (Γ2 := [eO it 15 [.null, .null, .int 0, .int 0, .ref q], eO q 13 [.int m, .int (nI ([]).length), va_rf (eHd ([]) none), va_rf (eLst ([]) none)], eNs none ([]) none, rs]) C dJ23_init_2 rfl rfl q880 (eSame1 rfl) (by decide) rfl rfl rfl rfl rfl rfl (Nat.le_of_ble_eq_true rfl) rfl ?_
    refine z_aload_n C dJ23_init_5 rfl rfl ?_
    refine z_objInit C dJ23_init_6 rfl rfl q874 q99 q100 (Nat.le_of_ble_eq_true rfl) (Nat.le_of_ble_eq_true rfl) ?_
    refine z_aload_n C dJ23_init_9 rfl rfl ?_
    refine z_aload_n C dJ23_init_10 rfl rfl ?_
    refine z_get eK15 0 4 C dJ23_init_11 rfl rfl q880 (eSame1 rfl) (by decide) rfl ?_
    refine z_get eK13 1 0 C dJ23_init_14 rfl rfl q126 (eSame2 C q127) (by decide) rfl ?_
    refine z_put eK15 0 3 (Γ2 := [eO it 15 [.null, .null, .int 0, .int m, .ref q], eO q 13 [.int m, .int (nI ([]).length), va_rf (eHd ([]) none), va_rf (eLst ([]) none)], eNs none ([]) none, rs]) C dJ23_init_17 rfl rfl q879 (eSame1 rfl) (by decide) rfl rfl rfl rfl (Nat.le_of_ble_eq_true rfl) rfl ?_
    refine z_aload_n C dJ23_init_20 rfl rfl ?_
    refine z_iload_n C dJ23_init_21 rfl rfl ?_
    refine z_aload_n C dJ23_init_22 rfl rfl ?_
    refine z_get eK13 1 1 C dJ23_init_23 rfl rfl q151 (eSame1 rfl) (by decide) rfl ?_
    refine z_icmp_ne 33 C dJ23_init_26 (by decide) (fun h1 => ?_) (fun h1 => ?_)
    · exact absurd rfl h1
    · refine z_null C dJ23_init_29 ?_
      refine z_goto 38 C dJ23_init_30 (by decide) ?_
      refine z_put eK15 0 1 (Γ2 := [eO it 15 [.null, .null, .int 0, .int m, .ref q], eO q 13 [.int m, .int (nI ([]).length), va_rf (eHd ([]) none), va_rf (eLst ([]) none)], eNs none ([]) none, rs]) C dJ23_init_38 rfl rfl q877 (eSame1 rfl) (by decide) rfl rfl rfl rfl (Nat.le_of_ble_eq_true rfl) rfl ?_
      refine z_aload_n C dJ23_init_41 rfl rfl ?_
      refine z_iload_n C dJ23_init_42 rfl rfl ?_
      refine z_put eK15 0 2 (Γ2 := [eO it 15 [.null, .null, .int 0, .int m, .ref q], eO q 13 [.int m, .int (nI ([]).length), va_rf (eHd ([]) none), va_rf (eLst ([]) none)], eNs none ([]) none, rs]) C dJ23_init_43 rfl rfl q878 (eSame1 rfl) (by decide) rfl rfl rfl rfl (Nat.le_of_ble_eq_true rfl) rfl ?_
      refine z_pick (Γ' := [eO q 13 [.int m, .int (nI ([]).length), va_rf (eHd ([]) none), va_rf (eLst ([]) none)], eNs none ([]) none, eO it 15 [.null, .null, .int 0, .int m, .ref q], rs]) [1, 2, 0, 3] rfl rfl ?_
      refine z_join 2 (b := eLL q m []) (by simp [eLL]) rfl ?_
      show eZ x E _ [eLL q m [], eO it 15 [.null, .null, .int 0, .int m, .ref q], rs] 46 [some (.ref it), some (.ref q), some (.int 0)] [] 0 0
      refine z_pick (Γ' := [eO it 15 [.null, .null, .int 0, .int m, .ref q], eLL q m [], rs]) [1, 0, 2] rfl rfl ?_
      exact z_vret (Γ := [eO it 15 [.null, .null, .int 0, .int m, .ref q], eLL q m []]) C dJ23_init_46 rfl (Nat.le_of_ble_eq_true rfl) (Nat.le_of_ble_eq_true rfl) ⟨rfl, rfl⟩
  · refine z_cut 1 (bs := [eO q 13 [.int m, .int (nI ((b, j) :: ys).length), va_rf (eHd ((b, j) :: ys) none), va_rf (eLst ((b, j) :: ys) none)], eNs none ((b, j) :: ys) none]) rfl eLL_cut rfl ?_
    show eZ x E _ [eO it 15 [.null, .null, .int 0, .int 0, .null], eO q 13 [.int m, .int (nI ((b, j) :: ys).length), va_rf (eHd ((b, j) :: ys) none), va_rf (eLst ((b, j) :: ys) none)], eNs none ((b, j) :: ys) none, rs] 0 [some (.ref it), some (.ref q), some (.int 0)] [] 0 0
    refine z_aload_n C dJ23_init_0 rfl rfl ?_
    refine z_aload_n C dJ23_init_1 rfl rfl ?_
    refine z_putF eK15 0 4 (Γ2 := [eO it 15 [.null, .null, .int 0, .int 0, .ref q], eO q 13 [.int m, .int (nI ((b, j) :: ys).length), va_rf (eHd ((b, j) :: ys) none), va_rf (eLst ((b, j) :: ys) none)], eNs none ((b, j) :: ys) none, rs]) C dJ23_init_2 rfl rfl q880 (eSame1 rfl) (by decide) rfl rfl rfl rfl rfl rfl (Nat.le_of_ble_eq_true rfl) rfl ?_
    refine z_aload_n C dJ23_init_5 rfl rfl ?_
    refine z_objInit C dJ23_init_6 rfl rfl q874 q99 q100 (Nat.le_of_ble_eq_true rfl) (Nat.le_of_ble_eq_true rfl) ?_
    refine z_aload_n C dJ23_init_9 rfl rfl ?_
    refine z_aload_n C dJ23_init_10 rfl rfl ?_
    refine z_get eK15 0 4 C dJ23_init_11 rfl rfl q880 (eSame1 rfl) (by decide) rfl ?_
    refine z_get eK13 1 0 C dJ23_init_14 rfl rfl q126 (eSame2 C q127) (by decide) rfl ?_
    refine z_put eK15 0 3 (Γ2 := [eO it 15 [.null, .null, .int 0, .int m, .ref q], eO q 13 [.int m, .int (nI ((b, j) :: ys).length), va_rf (eHd ((b, j) :: ys) none), va_rf (eLst ((b, j) :: ys) none)], eNs none ((b, j) :: ys) none, rs]) C dJ23_init_17 rfl rfl q879 (eSame1 rfl) (by decide) rfl rfl rfl rfl (Nat.le_of_ble_eq_true rfl) rfl ?_
    refine z_aload_n C dJ23_init_20 rfl rfl ?_
    refine z_iload_n C dJ23_init_21 rfl rfl ?_
    refine z_aload_n C dJ23_init_22 rfl rfl ?_
    refine z_get eK13 1 1 C dJ23_init_23 rfl rfl q151 (eSame1 rfl) (by decide) rfl ?_
    refine z_icmp_ne 33 C dJ23_init_26 (by decide) (fun h1 => ?_) (fun h1 => ?_)
    · refine z_aload_n C dJ23_init_33 rfl rfl ?_
      refine z_iload_n C dJ23_init_34 rfl rfl ?_
      refine z_pick (Γ' := [eO q 13 [.int m, .int (nI ((b, j) :: ys).length), va_rf (eHd ((b, j) :: ys) none), va_rf (eLst ((b, j) :: ys) none)], eNs none ((b, j) :: ys) none, eO it 15 [.null, .null, .int 0, .int m, .ref q], rs]) [1, 2, 0, 3] rfl rfl ?_
      refine z_join 2 (b := eLL q m ((b, j) :: ys)) (by simp [eLL]) rfl ?_
      show eZ x E _ [eLL q m ((b, j) :: ys), eO it 15 [.null, .null, .int 0, .int m, .ref q], rs] 35 [some (.ref it), some (.ref q), some (.int 0)] [.int 0, .ref q, .ref it] 0 0
      refine z_callV (r := (RJ4, TJ4, 4)) (As := [.int 0]) (rest := [.ref it]) (Δ := [eO it 15 [.null, .null, .int 0, .int m, .ref q], rs]) [0] [1, 2] 1 (m_LL_node hl E q b j 0 m ((b, j) :: ys) hx rfl) C dJ23_init_35 rfl rfl (eIn (i := 0) rfl eLL_mem) rfl rfl q875 q530 q531 q55 q532 (by decide +kernel) rfl rfl rfl rfl ⟨Nat.le_of_ble_eq_true rfl, Nat.le_of_ble_eq_true rfl⟩ (Nat.le_trans (eSm rfl eS0) (Nat.le_of_ble_eq_true rfl)) ⟨Nat.le_of_ble_eq_true rfl, Nat.le_of_ble_eq_true rfl⟩ (fun v_ Γ_ hp_ => ?_)
      obtain ⟨rfl, rfl⟩ := hp_
      show eZ x E _ [eLL q m ((b, j) :: ys), eO it 15 [.null, .null, .int 0, .int m, .ref q], rs] 38 [some (.ref it), some (.ref q), some (.int 0)] [.ref b, .ref it] 0 0
      refine z_put eK15 1 1 (Γ2 := [eLL q m ((b, j) :: ys), eO it 15 [.null, .ref b, .int 0, .int m, .ref q], rs]) C dJ23_init_38 rfl rfl q877 (eSame1 rfl) (by decide) rfl rfl rfl rfl (Nat.le_of_ble_eq_true rfl) rfl ?_
      refine z_aload_n C dJ23_init_41 rfl rfl ?_
      refine z_iload_n C dJ23_init_42 rfl rfl ?_
      refine z_put eK15 1 2 (Γ2 := [eLL q m ((b, j) :: ys), eO it 15 [.null, .ref b, .int 0, .int m, .ref q], rs]) C dJ23_init_43 rfl rfl q878 (eSame1 rfl) (by decide) rfl rfl rfl rfl (Nat.le_of_ble_eq_true rfl) rfl ?_
      refine z_pick (Γ' := [eO it 15 [.null, .ref b, .int 0, .int m, .ref q], eLL q m ((b, j) :: ys), rs]) [1, 0, 2] rfl rfl ?_
      exact z_vret (Γ := [eO it 15 [.null, .ref b, .int 0, .int m, .ref q], eLL q m ((b, j) :: ys)]) C dJ23_init_46 rfl (Nat.le_of_ble_eq_true rfl) (Nat.le_of_ble_eq_true rfl) ⟨rfl, rfl⟩
    · exact absurd h1.symm (nI_ne0 (Nat.succ_pos _) (by omega))

set_option maxHeartbeats 4000000 in
theorem m_LL_listIterator {l : Launch} (hl : l.stackTraces = false) (E : eEn) (q : Nat) (m : Int32) (xs : List (Nat × Nat)) (hx : xs.length < 1000000) : eMet l E yJ4_listIterator (ws_ yJ4_listIterator cJ4_listIterator 2 (some (.object "java/util/ListIterator"))) ({ frames := 2, cells := 1, slots := 5, locals := 45 }) [.ref q, .int 0] [eLL q m xs] (fun v Γ => ∃ it, v = some (.ref it) ∧ Γ = [eO it 15 [va_rf none, va_rf (eHd xs none), .int 0, .int m, .ref q], eLL q m xs]) := by
  refine eStart (cc := cJ4_listIterator) (nL := 2) (L := [some (.ref q), some (.int 0)]) hl (by decide) rfl (List.forall_mem_cons.mpr ⟨rfl, (List.forall_mem_cons.mpr ⟨rfl, (fun _ h => absurd h List.not_mem_nil)⟩)⟩) (Nat.le_of_ble_eq_true rfl) ?_
  intro x rs C
  show eZ x E (eQ x E (fun v Γ => ∃ it, v = some (.ref it) ∧ Γ = [eO it 15 [va_rf none, va_rf (eHd xs none), .int 0, .int m, .ref q], eLL q m xs]) rs) [eLL q m xs, rs] 0 [some (.ref q), some (.int 0)] [] 0 0
  refine z_aload_n C dJ4_listIterator_0 rfl rfl ?_
  refine z_iload_n C dJ4_listIterator_1 rfl rfl ?_
  refine z_callV (r := (RJ4, TJ4, 4)) (As := [.int 0]) (rest := []) (Δ := [rs]) [0] [1] 1 (m_LL_checkPositionIndex hl E q m xs hx) C dJ4_listIterator_2 rfl rfl (eIn (i := 0) rfl eLL_mem) rfl rfl q861 q863 qs8 q55 q864 (by decide +kernel) rfl rfl rfl rfl ⟨Nat.le_of_ble_eq_true rfl, Nat.le_of_ble_eq_true rfl⟩ (Nat.le_trans eS0 (Nat.le_of_ble_eq_true rfl)) ⟨Nat.le_of_ble_eq_true rfl, Nat.le_of_ble_eq_true rfl⟩ (fun v_ Γ_ hp_ => ?_)
  obtain ⟨rfl, rfl⟩ := hp_
  show eZ x E _ [eLL q m xs, rs] 5 [some (.ref q), some (.int 0)] [] 0 0
  refine z_new (fs := [.null, .null, .int 0, .int 0, .null]) eK15 C dJ4_listIterator_5 rfl q869 q870 q79 rfl (Nat.le_of_ble_eq_true rfl) (Nat.le_of_ble_eq_true rfl) (fun o1 => ?_)
  show eZ x E _ [eLL q m xs, rs, eO o1 15 [.null, .null, .int 0, .int 0, .null]] 8 [some (.ref q), some (.int 0)] [.ref o1] 1 5
  refine z_dup C dJ4_listIterator_8 rfl ?_
  refine z_aload_n C dJ4_listIterator_9 rfl rfl ?_
  refine z_iload_n C dJ4_listIterator_10 rfl rfl ?_
  refine z_callI (As := [.ref q, .int 0]) (rest := [.ref o1]) (Δ := [rs]) [2, 0] [1] 2 (m_LItr_init hl E o1 q m xs hx) C dJ4_listIterator_11 rfl rfl rfl q871 q872 q79 q873 rfl (by decide +kernel) rfl rfl rfl rfl ⟨Nat.le_of_ble_eq_true rfl, Nat.le_of_ble_eq_true rfl⟩ (Nat.le_trans (eSm rfl eS0) (Nat.le_of_ble_eq_true rfl)) ⟨Nat.le_of_ble_eq_true rfl, Nat.le_of_ble_eq_true rfl⟩ (fun v_ Γ_ hp_ => ?_)
  obtain ⟨rfl, rfl⟩ := hp_
  show eZ x E _ [eO o1 15 [va_rf none, va_rf (eHd xs none), .int 0, .int m, .ref q], eLL q m xs, rs] 14 [some (.ref q), some (.int 0)] [.ref o1] 1 5
  exact z_aret (Γ := [eO o1 15 [va_rf none, va_rf (eHd xs none), .int 0, .int m, .ref q], eLL q m xs]) C dJ4_listIterator_14 rfl (Or.inl ⟨_, rfl⟩) (Or.inr ⟨_, rfl⟩) (Nat.le_of_ble_eq_true rfl) (Nat.le_of_ble_eq_true rfl) ⟨o1, rfl, rfl⟩

set_option maxHeartbeats 4000000 in
theorem m_AL_listIterator {l : Launch} (hl : l.stackTraces = false) (E : eEn) (q : Nat) (m : Int32) (xs : List (Nat × Nat)) (hx : xs.length < 1000000) : eMet l E yJ1_listIterator (ws_ yJ1_listIterator cJ1_listIterator 1 (some (.object "java/util/ListIterator"))) ({ frames := 3, cells := 1, slots := 5, locals := 66 }) [.ref q] [eLL q m xs] (fun v Γ => ∃ it, v = some (.ref it) ∧ Γ = [eO it 15 [va_rf none, va_rf (eHd xs none), .int 0, .int m, .ref q], eLL q m xs]) := by
  refine eStart (cc := cJ1_listIterator) (nL := 1) (L := [some (.ref q)]) hl (by decide) rfl (List.forall_mem_cons.mpr ⟨rfl, (fun _ h => absurd h List.not_mem_nil)⟩) (Nat.le_of_ble_eq_true rfl) ?_
  intro x rs C
  show eZ x E (eQ x E (fun v Γ => ∃ it, v = some (.ref it) ∧ Γ = [eO it 15 [va_rf none, va_rf (eHd xs none), .int 0, .int m, .ref q], eLL q m xs]) rs) [eLL q m xs, rs] 0 [some (.ref q)] [] 0 0
  refine z_aload_n C dJ1_listIterator_0 rfl rfl ?_
  refine z_iconst (v := 0) C dJ1_listIterator_1 (by decide) ?_
  refine z_callU (r := (RJ4, TJ4, 4)) (As := [.int 0]) (rest := []) (Δ := [rs]) [0] [1] 1 (m_LL_listIterator hl E q m xs hx) C dJ1_listIterator_2 rfl rfl (eIn (i := 0) rfl eLL_mem) rfl rfl (eCA (owner := "java/util/AbstractList") q834 q836 q858 q859 q55 q860 q892 (by decide +kernel)) rfl rfl rfl rfl ⟨Nat.le_of_ble_eq_true rfl, Nat.le_of_ble_eq_true rfl⟩ (Nat.le_trans eS0 (Nat.le_of_ble_eq_true rfl)) ⟨Nat.le_of_ble_eq_true rfl, Nat.le_of_ble_eq_true rfl⟩ (fun v_ Γ_ hp_ => ?_)
  obtain ⟨it, rfl, rfl⟩ := hp_
  show eZ x E _ [eO it 15 [va_rf none, va_rf (eHd xs none), .int 0, .int m, .ref q], eLL q m xs, rs] 5 [some (.ref q)] [.ref it] 1 5
  exact z_aret (Γ := [eO it 15 [va_rf none, va_rf (eHd xs none), .int 0, .int m, .ref q], eLL q m xs]) C dJ1_listIterator_5 rfl (Or.inl ⟨_, rfl⟩) (Or.inr ⟨_, rfl⟩) (Nat.le_of_ble_eq_true rfl) (Nat.le_of_ble_eq_true rfl) ⟨it, rfl, rfl⟩

set_option maxHeartbeats 4000000 in
theorem m_Seq_iterator {l : Launch} (hl : l.stackTraces = false) (E : eEn) (q : Nat) (m : Int32) (xs : List (Nat × Nat)) (hx : xs.length < 1000000) : eMet l E yJ3_iterator (ws_ yJ3_iterator cJ3_iterator 1 (some (.object "java/util/Iterator"))) ({ frames := 4, cells := 1, slots := 5, locals := 86 }) [.ref q] [eLL q m xs] (fun v Γ => ∃ it, v = some (.ref it) ∧ Γ = [eO it 15 [va_rf none, va_rf (eHd xs none), .int 0, .int m, .ref q], eLL q m xs]) := by
  refine eStart (cc := cJ3_iterator) (nL := 1) (L := [some (.ref q)]) hl (by decide) rfl (List.forall_mem_cons.mpr ⟨rfl, (fun _ h => absurd h List.not_mem_nil)⟩) (Nat.le_of_ble_eq_true rfl) ?_
  intro x rs C
  show eZ x E (eQ x E (fun v Γ => ∃ it, v = some (.ref it) ∧ Γ = [eO it 15 [va_rf none, va_rf (eHd xs none), .int 0, .int m, .ref q], eLL q m xs]) rs) [eLL q m xs, rs] 0 [some (.ref q)] [] 0 0
  refine z_aload_n C dJ3_iterator_0 rfl rfl ?_
  refine z_callU (r := (RJ4, TJ4, 4)) (As := []) (rest := []) (Δ := [rs]) [0] [1] 0 (m_AL_listIterator hl E q m xs hx) C dJ3_iterator_1 rfl rfl (eIn (i := 0) rfl eLL_mem) rfl rfl (eCA (owner := "java/util/AbstractList") q828 q829 q831 q832 q52 q833 q830 (by decide +kernel)) rfl rfl rfl rfl ⟨Nat.le_of_ble_eq_true rfl, Nat.le_of_ble_eq_true rfl⟩ (Nat.le_trans eS0 (Nat.le_of_ble_eq_true rfl)) ⟨Nat.le_of_ble_eq_true rfl, Nat.le_of_ble_eq_true rfl⟩ (fun v_ Γ_ hp_ => ?_)
  obtain ⟨it, rfl, rfl⟩ := hp_
  show eZ x E _ [eO it 15 [va_rf none, va_rf (eHd xs none), .int 0, .int m, .ref q], eLL q m xs, rs] 4 [some (.ref q)] [.ref it] 1 5
  exact z_aret (Γ := [eO it 15 [va_rf none, va_rf (eHd xs none), .int 0, .int m, .ref q], eLL q m xs]) C dJ3_iterator_4 rfl (Or.inl ⟨_, rfl⟩) (Or.inr ⟨_, rfl⟩) (Nat.le_of_ble_eq_true rfl) (Nat.le_of_ble_eq_true rfl) ⟨it, rfl, rfl⟩

set_option maxHeartbeats 4000000 in
theorem m_LItr_hasNext {l : Launch} (hl : l.stackTraces = false) (E : eEn) (it q : Nat) (m : Int32) (lr : Option Nat) (xs ys : List (Nat × Nat)) (hx : (xs ++ ys).length < 1000000) : eMet l E yJ23_hasNext (ws_ yJ23_hasNext cJ23_hasNext 1 (some .boolean)) ({ frames := 0, cells := 0, slots := 0, locals := 0 }) [.ref it] [eO it 15 [va_rf lr, va_rf (eHd ys none), .int (nI xs.length), .int m, .ref q], eLL q m (xs ++ ys)] (fun v Γ => v = some (.int (eB (!ys.isEmpty))) ∧ Γ = [eO it 15 [va_rf lr, va_rf (eHd ys none), .int (nI xs.length), .int m, .ref q], eLL q m (xs ++ ys)]) := by
  refine eStart (cc := cJ23_hasNext) (nL := 1) (L := [some (.ref it)]) hl (by decide) rfl (List.forall_mem_cons.mpr ⟨rfl, (fun _ h => absurd h List.not_mem_nil)⟩) (Nat.le_of_ble_eq_true rfl) ?_
  intro x rs C
  show eZ x E (eQ x E (fun v Γ => v = some (.int (eB (!ys.isEmpty))) ∧ Γ = [eO it 15 [va_rf lr, va_rf (eHd ys none), .int (nI xs.length), .int m, .ref q], eLL q m (xs ++ ys)]) rs) [eO it 15 [va_rf lr, va_rf (eHd ys none), .int (nI xs.length), .int m, .ref q], eLL q m (xs ++ ys), rs] 0 [some (.ref it)] [] 0 0
  refine z_cut 1 (bs := [eO q 13 [.int m, .int (nI (xs ++ ys).length), va_rf (eHd (xs ++ ys) none), va_rf (eLst (xs ++ ys) none)], eNs none (xs ++ ys) none]) rfl eLL_cut rfl ?_
  show eZ x E _ [eO it 15 [va_rf lr, va_rf (eHd ys none), .int (nI xs.length), .int m, .ref q], eO q 13 [.int m, .int (nI (xs ++ ys).length), va_rf (eHd (xs ++ ys) none), va_rf (eLst (xs ++ ys) none)], eNs none (xs ++ ys) none, rs] 0 [some (.ref it)] [] 0 0
  refine z_aload_n C dJ23_hasNext_0 rfl rfl ?_
  refine z_get eK15 0 2 C dJ23_hasNext_1 rfl rfl q878 (eSame1 rfl) (by decide) rfl ?_
  refine z_aload_n C dJ23_hasNext_4 rfl rfl ?_
  refine z_get eK15 0 4 C dJ23_hasNext_5 rfl rfl q880 (eSame1 rfl) (by decide) rfl ?_
  refine z_get eK13 1 1 C dJ23_hasNext_8 rfl rfl q151 (eSame1 rfl) (by decide) rfl ?_
  refine z_icmp_ge 18 C dJ23_hasNext_11 (by decide) (fun h1 => ?_) (fun h1 => ?_)
  · refine z_iconst (v := 0) C dJ23_hasNext_18 (by decide) ?_
    refine z_pick (Γ' := [eO q 13 [.int m, .int (nI (xs ++ ys).length), va_rf (eHd (xs ++ ys) none), va_rf (eLst (xs ++ ys) none)], eNs none (xs ++ ys) none, eO it 15 [va_rf lr, va_rf (eHd ys none), .int (nI xs.length), .int m, .ref q], rs]) [1, 2, 0, 3] rfl rfl ?_
    refine z_join 2 (b := eLL q m (xs ++ ys)) (by simp [eLL]) rfl ?_
    show eZ x E _ [eLL q m (xs ++ ys), eO it 15 [va_rf lr, va_rf (eHd ys none), .int (nI xs.length), .int m, .ref q], rs] 19 [some (.ref it)] [.int 0] 0 0
    refine z_pick (Γ' := [eO it 15 [va_rf lr, va_rf (eHd ys none), .int (nI xs.length), .int m, .ref q], eLL q m (xs ++ ys), rs]) [1, 0, 2] rfl rfl ?_
    exact z_ret (Γ := [eO it 15 [va_rf lr, va_rf (eHd ys none), .int (nI xs.length), .int m, .ref q], eLL q m (xs ++ ys)]) C dJ23_hasNext_19 rfl (by decide) (Nat.le_of_ble_eq_true rfl) (Nat.le_of_ble_eq_true rfl) ⟨by rw [show (!ys.isEmpty) = false by cases ys with | nil => rfl | cons a t => exact absurd h1 (nI_ge (by simp only [List.length_append, List.length_cons]; omega) (by omega))]; rfl, rfl⟩
  · refine z_iconst (v := 1) C dJ23_hasNext_14 (by decide) ?_
    refine z_goto 19 C dJ23_hasNext_15 (by decide) ?_
    refine z_pick (Γ' := [eO q 13 [.int m, .int (nI (xs ++ ys).length), va_rf (eHd (xs ++ ys) none), va_rf (eLst (xs ++ ys) none)], eNs none (xs ++ ys) none, eO it 15 [va_rf lr, va_rf (eHd ys none), .int (nI xs.length), .int m, .ref q], rs]) [1, 2, 0, 3] rfl rfl ?_
    refine z_join 2 (b := eLL q m (xs ++ ys)) (by simp [eLL]) rfl ?_
    show eZ x E _ [eLL q m (xs ++ ys), eO it 15 [va_rf lr, va_rf (eHd ys none), .int (nI xs.length), .int m, .ref q], rs] 19 [some (.ref it)] [.int 1] 0 0
    refine z_pick (Γ' := [eO it 15 [va_rf lr, va_rf (eHd ys none), .int (nI xs.length), .int m, .ref q], eLL q m (xs ++ ys), rs]) [1, 0, 2] rfl rfl ?_
    exact z_ret (Γ := [eO it 15 [va_rf lr, va_rf (eHd ys none), .int (nI xs.length), .int m, .ref q], eLL q m (xs ++ ys)]) C dJ23_hasNext_19 rfl (by decide) (Nat.le_of_ble_eq_true rfl) (Nat.le_of_ble_eq_true rfl) ⟨by rw [show (!ys.isEmpty) = true by cases ys with | cons a t => rfl | nil => exact absurd (by rw [List.append_nil]; exact nI_le (Nat.le_refl _) (by rw [List.append_nil] at hx; omega)) h1]; rfl, rfl⟩

set_option maxHeartbeats 4000000 in
theorem m_LItr_check {l : Launch} (hl : l.stackTraces = false) (E : eEn) (it q : Nat) (m : Int32) (lr : Option Nat) (xs ys : List (Nat × Nat)) (hx : (xs ++ ys).length < 1000000) : eMet l E yJ23_checkForComodification (ws_ yJ23_checkForComodification cJ23_checkForComodification 1 none) ({ frames := 0, cells := 0, slots := 0, locals := 0 }) [.ref it] [eO it 15 [va_rf lr, va_rf (eHd ys none), .int (nI xs.length), .int m, .ref q], eLL q m (xs ++ ys)] (fun v Γ => v = none ∧ Γ = [eO it 15 [va_rf lr, va_rf (eHd ys none), .int (nI xs.length), .int m, .ref q], eLL q m (xs ++ ys)]) := by
  refine eStart (cc := cJ23_checkForComodification) (nL := 1) (L := [some (.ref it)]) hl (by decide) rfl (List.forall_mem_cons.mpr ⟨rfl, (fun _ h => absurd h List.not_mem_nil)⟩) (Nat.le_of_ble_eq_true rfl) ?_
  intro x rs C
  show eZ x E (eQ x E (fun v Γ => v = none ∧ Γ = [eO it 15 [va_rf lr, va_rf (eHd ys none), .int (nI xs.length), .int m, .ref q], eLL q m (xs ++ ys)]) rs) [eO it 15 [va_rf lr, va_rf (eHd ys none), .int (nI xs.length), .int m, .ref q], eLL q m (xs ++ ys), rs] 0 [some (.ref it)] [] 0 0
  refine z_cut 1 (bs := [eO q 13 [.int m, .int (nI (xs ++ ys).length), va_rf (eHd (xs ++ ys) none), va_rf (eLst (xs ++ ys) none)], eNs none (xs ++ ys) none]) rfl eLL_cut rfl ?_
  show eZ x E _ [eO it 15 [va_rf lr, va_rf (eHd ys none), .int (nI xs.length), .int m, .ref q], eO q 13 [.int m, .int (nI (xs ++ ys).length), va_rf (eHd (xs ++ ys) none), va_rf (eLst (xs ++ ys) none)], eNs none (xs ++ ys) none, rs] 0 [some (.ref it)] [] 0 0
  refine z_aload_n C dJ23_checkForComodification_0 rfl rfl ?_
  refine z_get eK15 0 4 C dJ23_checkForComodification_1 rfl rfl q880 (eSame1 rfl) (by decide) rfl ?_
  refine z_get eK13 1 0 C dJ23_checkForComodification_4 rfl rfl q126 (eSame2 C q127) (by decide) rfl ?_
  refine z_aload_n C dJ23_checkForComodification_7 rfl rfl ?_
  refine z_get eK15 0 3 C dJ23_checkForComodification_8 rfl rfl q879 (eSame1 rfl) (by decide) rfl ?_
  refine z_icmp_eq 22 C dJ23_checkForComodification_11 (by decide) (fun h1 => ?_) (fun h1 => ?_)
  · refine z_pick (Γ' := [eO q 13 [.int m, .int (nI (xs ++ ys).length), va_rf (eHd (xs ++ ys) none), va_rf (eLst (xs ++ ys) none)], eNs none (xs ++ ys) none, eO it 15 [va_rf lr, va_rf (eHd ys none), .int (nI xs.length), .int m, .ref q], rs]) [1, 2, 0, 3] rfl rfl ?_
    refine z_join 2 (b := eLL q m (xs ++ ys)) (by simp [eLL]) rfl ?_
    show eZ x E _ [eLL q m (xs ++ ys), eO it 15 [va_rf lr, va_rf (eHd ys none), .int (nI xs.length), .int m, .ref q], rs] 22 [some (.ref it)] [] 0 0
    refine z_pick (Γ' := [eO it 15 [va_rf lr, va_rf (eHd ys none), .int (nI xs.length), .int m, .ref q], eLL q m (xs ++ ys), rs]) [1, 0, 2] rfl rfl ?_
    exact z_vret (Γ := [eO it 15 [va_rf lr, va_rf (eHd ys none), .int (nI xs.length), .int m, .ref q], eLL q m (xs ++ ys)]) C dJ23_checkForComodification_22 rfl (Nat.le_of_ble_eq_true rfl) (Nat.le_of_ble_eq_true rfl) ⟨rfl, rfl⟩
  · exact absurd rfl h1

set_option maxHeartbeats 4000000 in
theorem m_LItr_next {l : Launch} (hl : l.stackTraces = false) (E : eEn) (it q a j : Nat) (m : Int32) (lr : Option Nat) (xs ys : List (Nat × Nat)) (hx : (xs ++ (a, j) :: ys).length < 1000000) : eMet l E yJ23_next (ws_ yJ23_next cJ23_next 1 (some (.object "java/lang/Object"))) ({ frames := 1, cells := 0, slots := 0, locals := 20 }) [.ref it] [eO it 15 [va_rf lr, va_rf (some a), .int (nI xs.length), .int m, .ref q], eLL q m (xs ++ (a, j) :: ys)] (fun v Γ => v = some (.ref j) ∧ Γ = [eO it 15 [va_rf (some a), va_rf (eHd ys none), .int (nI (xs.length + 1)), .int m, .ref q], eLL q m (xs ++ (a, j) :: ys)]) := by
  refine eStart (cc := cJ23_next) (nL := 1) (L := [some (.ref it)]) hl (by decide) rfl (List.forall_mem_cons.mpr ⟨rfl, (fun _ h => absurd h List.not_mem_nil)⟩) (Nat.le_of_ble_eq_true rfl) ?_
  intro x rs C
  show eZ x E (eQ x E (fun v Γ => v = some (.ref j) ∧ Γ = [eO it 15 [va_rf (some a), va_rf (eHd ys none), .int (nI (xs.length + 1)), .int m, .ref q], eLL q m (xs ++ (a, j) :: ys)]) rs) [eO it 15 [va_rf lr, va_rf (some a), .int (nI xs.length), .int m, .ref q], eLL q m (xs ++ (a, j) :: ys), rs] 0 [some (.ref it)] [] 0 0
  refine z_aload_n C dJ23_next_0 rfl rfl ?_
  refine z_callV (r := (RJ23, TJ23, 5)) (As := []) (rest := []) (Δ := [rs]) [0, 1] [2] 0 (m_LItr_check hl E it q m lr xs ((a, j) :: ys) hx) C dJ23_next_1 rfl rfl (eIn (i := 0) rfl List.mem_cons_self) rfl rfl q813 q814 q815 q79 q816 (by decide +kernel) rfl rfl rfl rfl ⟨Nat.le_of_ble_eq_true rfl, Nat.le_of_ble_eq_true rfl⟩ (Nat.le_trans eS0 (Nat.le_of_ble_eq_true rfl)) ⟨Nat.le_of_ble_eq_true rfl, Nat.le_of_ble_eq_true rfl⟩ (fun v_ Γ_ hp_ => ?_)
  obtain ⟨rfl, rfl⟩ := hp_
  show eZ x E _ [eO it 15 [va_rf lr, va_rf (some a), .int (nI xs.length), .int m, .ref q], eLL q m (xs ++ (a, j) :: ys), rs] 4 [some (.ref it)] [] 0 0
  refine z_aload_n C dJ23_next_4 rfl rfl ?_
  refine z_callV (r := (RJ23, TJ23, 5)) (As := []) (rest := []) (Δ := [rs]) [0, 1] [2] 0 (m_LItr_hasNext hl E it q m lr xs ((a, j) :: ys) hx) C dJ23_next_5 rfl rfl (eIn (i := 0) rfl List.mem_cons_self) rfl rfl q817 q485 q1943 q79 q487 (by decide +kernel) rfl rfl rfl rfl ⟨Nat.le_of_ble_eq_true rfl, Nat.le_of_ble_eq_true rfl⟩ (Nat.le_trans eS0 (Nat.le_of_ble_eq_true rfl)) ⟨Nat.le_of_ble_eq_true rfl, Nat.le_of_ble_eq_true rfl⟩ (fun v_ Γ_ hp_ => ?_)
  obtain ⟨rfl, rfl⟩ := hp_
  show eZ x E _ [eO it 15 [va_rf lr, va_rf (some a), .int (nI xs.length), .int m, .ref q], eLL q m (xs ++ (a, j) :: ys), rs] 8 [some (.ref it)] [.int (eB true)] 0 0
  refine z_if_ne_B 19 C dJ23_next_8 (by decide) (fun h1 => ?_) (fun h1 => ?_)
  · have hb : (xs ++ (a, j) :: ys)[xs.length]? = some (a, j) := by simp
    have hix : eIx (xs ++ (a, j) :: ys) (xs.length + 1) = eHd ys none := by rw [← eHd_drop, show xs ++ (a, j) :: ys = (xs ++ [(a, j)]) ++ ys by simp, List.drop_left' (by simp)]
    refine z_cut 1 (bs := [eO q 13 [.int m, .int (nI (xs ++ (a, j) :: ys).length), va_rf (eHd (xs ++ (a, j) :: ys) none), va_rf (eLst (xs ++ (a, j) :: ys) none)], eNs none ((xs ++ (a, j) :: ys).take xs.length) (some a), eO a 14 [.ref j, va_rf (eIx (xs ++ (a, j) :: ys) (xs.length + 1)), va_rf (eLst ((xs ++ (a, j) :: ys).take xs.length) none)], eNs (some a) ((xs ++ (a, j) :: ys).drop (xs.length + 1)) none]) rfl (eLL_at hb) rfl ?_
    show eZ x E _ [eO it 15 [va_rf lr, va_rf (some a), .int (nI xs.length), .int m, .ref q], eO q 13 [.int m, .int (nI (xs ++ (a, j) :: ys).length), va_rf (eHd (xs ++ (a, j) :: ys) none), va_rf (eLst (xs ++ (a, j) :: ys) none)], eNs none ((xs ++ (a, j) :: ys).take xs.length) (some a), eO a 14 [.ref j, va_rf (eIx (xs ++ (a, j) :: ys) (xs.length + 1)), va_rf (eLst ((xs ++ (a, j) :: ys).take xs.length) none)], eNs (some a) ((xs ++ (a, j) :: ys).drop (xs.length + 1)) none, rs] 19 [some (.ref it)] [] 0 0
    refine z_aload_n C dJ23_next_19 rfl rfl ?_
    refine z_aload_n C dJ23_next_20 rfl rfl ?_
    refine z_get eK15 0 1 C dJ23_next_21 rfl rfl q877 (eSame1 rfl) (by decide) rfl ?_
    refine z_put eK15 0 0 (Γ2 := [eO it 15 [.ref a, va_rf (some a), .int (nI xs.length), .int m, .ref q], eO q 13 [.int m, .int (nI (xs ++ (a, j) :: ys).length), va_rf (eHd (xs ++ (a, j) :: ys) none), va_rf (eLst (xs ++ (a, j) :: ys) none)], eNs none ((xs ++ (a, j) :: ys).take xs.length) (some a), eO a 14 [.ref j, va_rf (eIx (xs ++ (a, j) :: ys) (xs.length + 1)), va_rf (eLst ((xs ++ (a, j) :: ys).take xs.length) none)], eNs (some a) ((xs ++ (a, j) :: ys).drop (xs.length + 1)) none, rs]) C dJ23_next_24 rfl rfl q876 (eSame1 rfl) (by decide) rfl rfl rfl rfl (Nat.le_of_ble_eq_true rfl) rfl ?_
    refine z_aload_n C dJ23_next_27 rfl rfl ?_
    refine z_aload_n C dJ23_next_28 rfl rfl ?_
    refine z_get eK15 0 1 C dJ23_next_29 rfl rfl q877 (eSame1 rfl) (by decide) rfl ?_
    refine z_get eK14 3 1 C dJ23_next_32 rfl rfl q956 (eSame1 rfl) (by decide) rfl ?_
    refine z_put eK15 0 1 (Γ2 := [eO it 15 [.ref a, va_rf (eIx (xs ++ (a, j) :: ys) (xs.length + 1)), .int (nI xs.length), .int m, .ref q], eO q 13 [.int m, .int (nI (xs ++ (a, j) :: ys).length), va_rf (eHd (xs ++ (a, j) :: ys) none), va_rf (eLst (xs ++ (a, j) :: ys) none)], eNs none ((xs ++ (a, j) :: ys).take xs.length) (some a), eO a 14 [.ref j, va_rf (eIx (xs ++ (a, j) :: ys) (xs.length + 1)), va_rf (eLst ((xs ++ (a, j) :: ys).take xs.length) none)], eNs (some a) ((xs ++ (a, j) :: ys).drop (xs.length + 1)) none, rs]) C dJ23_next_35 rfl rfl q877 (eSame1 rfl) (by decide) rfl rfl (e_narR _ _) (e_fitR _ _) (Nat.le_of_ble_eq_true rfl) rfl ?_
    refine z_aload_n C dJ23_next_38 rfl rfl ?_
    refine z_dup C dJ23_next_39 rfl ?_
    refine z_get eK15 0 2 C dJ23_next_40 rfl rfl q878 (eSame1 rfl) (by decide) rfl ?_
    refine z_iconst (v := 1) C dJ23_next_43 (by decide) ?_
    refine z_iadd (w := nI (xs.length + 1)) C dJ23_next_44 (nI_1 _) ?_
    refine z_put eK15 0 2 (Γ2 := [eO it 15 [.ref a, va_rf (eIx (xs ++ (a, j) :: ys) (xs.length + 1)), .int (nI (xs.length + 1)), .int m, .ref q], eO q 13 [.int m, .int (nI (xs ++ (a, j) :: ys).length), va_rf (eHd (xs ++ (a, j) :: ys) none), va_rf (eLst (xs ++ (a, j) :: ys) none)], eNs none ((xs ++ (a, j) :: ys).take xs.length) (some a), eO a 14 [.ref j, va_rf (eIx (xs ++ (a, j) :: ys) (xs.length + 1)), va_rf (eLst ((xs ++ (a, j) :: ys).take xs.length) none)], eNs (some a) ((xs ++ (a, j) :: ys).drop (xs.length + 1)) none, rs]) C dJ23_next_45 rfl rfl q878 (eSame1 rfl) (by decide) rfl rfl rfl rfl (Nat.le_of_ble_eq_true rfl) rfl ?_
    refine z_aload_n C dJ23_next_48 rfl rfl ?_
    refine z_get eK15 0 0 C dJ23_next_49 rfl rfl q876 (eSame1 rfl) (by decide) rfl ?_
    refine z_get eK14 3 0 C dJ23_next_52 rfl rfl q953 (eSame1 rfl) (by decide) rfl ?_
    refine z_pick (Γ' := [eO q 13 [.int m, .int (nI (xs ++ (a, j) :: ys).length), va_rf (eHd (xs ++ (a, j) :: ys) none), va_rf (eLst (xs ++ (a, j) :: ys) none)], eNs none ((xs ++ (a, j) :: ys).take xs.length) (some a), eO a 14 [.ref j, va_rf (eIx (xs ++ (a, j) :: ys) (xs.length + 1)), va_rf (eLst ((xs ++ (a, j) :: ys).take xs.length) none)], eNs (some a) ((xs ++ (a, j) :: ys).drop (xs.length + 1)) none, eO it 15 [.ref a, va_rf (eIx (xs ++ (a, j) :: ys) (xs.length + 1)), .int (nI (xs.length + 1)), .int m, .ref q], rs]) [1, 2, 3, 4, 0, 5] rfl rfl ?_
    refine z_join 4 (b := eLL q m (xs ++ (a, j) :: ys)) (eLL_at hb).symm rfl ?_
    show eZ x E _ [eLL q m (xs ++ (a, j) :: ys), eO it 15 [.ref a, va_rf (eIx (xs ++ (a, j) :: ys) (xs.length + 1)), .int (nI (xs.length + 1)), .int m, .ref q], rs] 55 [some (.ref it)] [.ref j] 0 0
    refine z_pick (Γ' := [eO it 15 [.ref a, va_rf (eIx (xs ++ (a, j) :: ys) (xs.length + 1)), .int (nI (xs.length + 1)), .int m, .ref q], eLL q m (xs ++ (a, j) :: ys), rs]) [1, 0, 2] rfl rfl ?_
    rw [hix]
    exact z_aret (Γ := [eO it 15 [va_rf (some a), va_rf (eHd ys none), .int (nI (xs.length + 1)), .int m, .ref q], eLL q m (xs ++ (a, j) :: ys)]) C dJ23_next_55 rfl (Or.inl ⟨_, rfl⟩) (Or.inr ⟨_, rfl⟩) (Nat.le_of_ble_eq_true rfl) (Nat.le_of_ble_eq_true rfl) ⟨rfl, rfl⟩
  · cases h1
