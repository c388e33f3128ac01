/-! ===== constructors of the reader and of the system ===== -/
set_option maxRecDepth 100000
def gSt0 : Nat → Int32 := upd (upd (upd (upd (fun _ => 0) 0 4) 1 2) 2 3) 3 1

set_option maxHeartbeats 4000000 in
theorem m_Rd_init {l : Launch} (hl : l.stackTraces = false) (E : eEn) (r a dq sb : Nat) (m : Cm) (S : List (Nat × Enr)) (hok : gOk m.abs) (hS : eBkS m S) : eMet l E yX12_init (ws_ yX12_init cX12_init 2 none) ({ frames := 8, cells := 103, slots := 472, locals := 159 }) [.ref r, .ref a] [eO r 11 [.null, .null, .int 0, .int 0, .int 0, .int 0, .int 0, .null], eO a 0 [.ref m.a, .ref dq, .ref sb], eMac E m, eSto S] (fun w Γ => w = none ∧ ∃ c2 na, Γ = [eRd r c2.a na 0 0 0 0 0 a, eIA E na 3 (fun _ => 0), eMac E c2, eO a 0 [.ref m.a, .ref dq, .ref sb], eMac E m, eSto S] ∧ c2.abs = m.abs ∧ eBkS c2 S) := by
  refine eStart (cc := cX12_init) (nL := 2) (L := [some (.ref r), some (.ref a)]) hl (by decide) rfl (List.forall_mem_cons.mpr ⟨rfl, (List.forall_mem_cons.mpr ⟨rfl, (fun _ h => absurd h List.not_mem_nil)⟩)⟩) (Nat.le_of_ble_eq_true rfl) ?_
  intro x rs C
  show eZ x E (eQ x E (fun w Γ => w = none ∧ ∃ c2 na, Γ = [eRd r c2.a na 0 0 0 0 0 a, eIA E na 3 (fun _ => 0), eMac E c2, eO a 0 [.ref m.a, .ref dq, .ref sb], eMac E m, eSto S] ∧ c2.abs = m.abs ∧ eBkS c2 S) rs) [eO r 11 [.null, .null, .int 0, .int 0, .int 0, .int 0, .int 0, .null], eO a 0 [.ref m.a, .ref dq, .ref sb], eMac E m, eSto S, rs] 0 [some (.ref r), some (.ref a)] [] 0 0
  generalize hQ_ : eQ x E (fun w Γ => w = none ∧ ∃ c2 na, Γ = [eRd r c2.a na 0 0 0 0 0 a, eIA E na 3 (fun _ => 0), eMac E c2, eO a 0 [.ref m.a, .ref dq, .ref sb], eMac E m, eSto S] ∧ c2.abs = m.abs ∧ eBkS c2 S) rs = Q_
  refine z_aload_n C dX12_init_0 rfl rfl ?_
  refine z_aload_n C dX12_init_1 rfl rfl ?_
  refine z_putF eK11 0 7 (Γ2 := [eO r 11 [.null, .null, .int 0, .int 0, .int 0, .int 0, .int 0, .ref a], eO a 0 [.ref m.a, .ref dq, .ref sb], eMac E m, eSto S, rs]) C dX12_init_2 rfl rfl q1552 (eSame1 rfl) (by decide) rfl rfl rfl rfl rfl rfl (Nat.le_of_ble_eq_true rfl) rfl ?_
  refine z_aload_n C dX12_init_5 rfl rfl ?_
  refine z_objInit C dX12_init_6 rfl rfl q1537 q99 q100 (Nat.le_of_ble_eq_true rfl) (Nat.le_of_ble_eq_true rfl) ?_
  refine z_aload_n C dX12_init_9 rfl rfl ?_
  refine z_new (fs := [.null, .null, .null, .null, .int 0, .int 0, .int 0, .int 0, .int 0, .int 0]) eK1 C dX12_init_10 rfl q1538 q102 q50 rfl (Nat.le_of_ble_eq_true rfl) (Nat.le_of_ble_eq_true rfl) (fun o1 => ?_)
  show eZ x E _ [eO r 11 [.null, .null, .int 0, .int 0, .int 0, .int 0, .int 0, .ref a], eO a 0 [.ref m.a, .ref dq, .ref sb], eMac E m, eSto S, rs, eO o1 1 [.null, .null, .null, .null, .int 0, .int 0, .int 0, .int 0, .int 0, .int 0]] 13 [some (.ref r), some (.ref a)] [.ref o1, .ref r] 1 10
  refine z_dup C dX12_init_13 rfl ?_
  refine z_aload_n C dX12_init_14 rfl rfl ?_
  refine z_get eK11 0 7 C dX12_init_15 rfl rfl q1552 (eSame1 rfl) (by decide) rfl ?_
  refine z_getN eK0 1 0 C dX12_init_18 rfl rfl q398 (eSame1 rfl) (by decide) rfl ?_
  refine z_callI (As := [.ref m.a]) (rest := [.ref o1, .ref r]) (Δ := [eO r 11 [.null, .null, .int 0, .int 0, .int 0, .int 0, .int 0, .ref a], eO a 0 [.ref m.a, .ref dq, .ref sb], rs]) [5, 2, 3] [0, 1, 4] 1 (m_Machine_init2 hl E o1 m S hok hS) C dX12_init_21 rfl rfl rfl q1539 q420 q50 q421 rfl (by decide +kernel) rfl (ePm 6 rfl (by decide +kernel)) rfl rfl ⟨Nat.le_of_ble_eq_true rfl, Nat.le_of_ble_eq_true rfl⟩ (Nat.le_trans (eSm rfl (eSm rfl eS0)) (Nat.le_of_ble_eq_true rfl)) ⟨Nat.le_of_ble_eq_true rfl, Nat.le_of_ble_eq_true rfl⟩ (fun v_ Γ_ hp_ => ?_)
  obtain ⟨rfl, c2, rfl, hca, hab, hS2⟩ := hp_
  show eZ x E _ [eMac E c2, eMac E m, eSto S, eO r 11 [.null, .null, .int 0, .int 0, .int 0, .int 0, .int 0, .ref a], eO a 0 [.ref m.a, .ref dq, .ref sb], rs] 24 [some (.ref r), some (.ref a)] [.ref o1, .ref r] 102 469
  subst hca
  show eZ x E _ [eMac E c2, eMac E m, eSto S, eO r 11 [.null, .null, .int 0, .int 0, .int 0, .int 0, .int 0, .ref a], eO a 0 [.ref m.a, .ref dq, .ref sb], rs] 24 [some (.ref r), some (.ref a)] [.ref c2.a, .ref r] 102 469
  refine z_putF eK11 3 0 (Γ2 := [eMac E c2, eMac E m, eSto S, eO r 11 [.ref c2.a, .null, .int 0, .int 0, .int 0, .int 0, .int 0, .ref a], eO a 0 [.ref m.a, .ref dq, .ref sb], rs]) C dX12_init_24 rfl rfl q1540 (eSame1 rfl) (by decide) rfl rfl rfl rfl rfl rfl (Nat.le_of_ble_eq_true rfl) rfl ?_
  refine z_aload_n C dX12_init_27 rfl rfl ?_
  refine z_iconst (v := 3) C dX12_init_28 (by decide) ?_
  refine z_newI (m := 3) C dX12_init_29 rfl (by decide) (Nat.le_of_ble_eq_true rfl) (Nat.le_of_ble_eq_true rfl) (fun a2 => ?_)
  show eZ x E _ [eMac E c2, eMac E m, eSto S, eO r 11 [.ref c2.a, .null, .int 0, .int 0, .int 0, .int 0, .int 0, .ref a], eO a 0 [.ref m.a, .ref dq, .ref sb], rs, eIA E a2 3 (fun _ => 0)] 31 [some (.ref r), some (.ref a)] [.ref a2, .ref r] 103 472
  refine z_putF eK11 3 1 (Γ2 := [eMac E c2, eMac E m, eSto S, eO r 11 [.ref c2.a, .ref a2, .int 0, .int 0, .int 0, .int 0, .int 0, .ref a], eO a 0 [.ref m.a, .ref dq, .ref sb], rs, eIA E a2 3 (fun _ => 0)]) C dX12_init_31 rfl rfl q1542 (eSame1 rfl) (by decide) rfl rfl rfl rfl rfl rfl (Nat.le_of_ble_eq_true rfl) rfl ?_
  refine z_pick (Γ' := [eO r 11 [.ref c2.a, .ref a2, .int 0, .int 0, .int 0, .int 0, .int 0, .ref a], eIA E a2 3 (fun _ => 0), eMac E c2, eO a 0 [.ref m.a, .ref dq, .ref sb], eMac E m, eSto S, rs]) [3, 6, 0, 4, 1, 2, 5] (ePm 7 rfl (by decide +kernel)) rfl ?_
  subst hQ_
  exact z_vret (Γ := [eO r 11 [.ref c2.a, .ref a2, .int 0, .int 0, .int 0, .int 0, .int 0, .ref a], eIA E a2 3 (fun _ => 0), eMac E c2, eO a 0 [.ref m.a, .ref dq, .ref sb], eMac E m, eSto S]) C dX12_init_34 rfl (Nat.le_of_ble_eq_true rfl) (Nat.le_of_ble_eq_true rfl) ⟨rfl, c2, a2, rfl, hab, hS2⟩

theorem gNew_ok : gOk (gNew gSt0) := by
  refine ⟨rfl, fun l hl => ?_, rfl, Nat.zero_le _, by decide +kernel, by decide +kernel⟩
  have h : l.2 = [] := by
    rcases List.mem_cons.mp hl with h | h
    · rw [h]
    rcases List.mem_cons.mp h with h | h
    · rw [h]
    rcases List.mem_cons.mp h with h | h
    · rw [h]
    rw [List.mem_singleton.mp h]
  rw [h]; exact Nat.zero_le _

set_option maxHeartbeats 4000000 in
theorem m_Sys_init {l : Launch} (hl : l.stackTraces = false) (E : eEn) (a : Nat) : eMet l E yX0_init (ws_ yX0_init cX0_init 1 none) ({ frames := 7, cells := 25, slots := 164, locals := 135 }) [.ref a] [eO a 0 [.null, .null, .null]] (fun w Γ => w = none ∧ ∃ s : Sy, Γ = [eSys E s] ∧ s.abs = (gNew gSt0, [], []) ∧ sOk s ∧ s.a = a) := by
  refine eStart (cc := cX0_init) (nL := 1) (L := [some (.ref a)]) hl (by decide) rfl (List.forall_mem_cons.mpr ⟨rfl, (fun _ h => absurd h List.not_mem_nil)⟩) (Nat.le_of_ble_eq_true rfl) ?_
  intro x rs C
  show eZ x E (eQ x E (fun w Γ => w = none ∧ ∃ s : Sy, Γ = [eSys E s] ∧ s.abs = (gNew gSt0, [], []) ∧ sOk s ∧ s.a = a) rs) [eO a 0 [.null, .null, .null], rs] 0 [some (.ref a)] [] 0 0
  generalize hQ_ : eQ x E (fun w Γ => w = none ∧ ∃ s : Sy, Γ = [eSys E s] ∧ s.abs = (gNew gSt0, [], []) ∧ sOk s ∧ s.a = a) rs = Q_
  refine z_aload_n C dX0_init_0 rfl rfl ?_
  refine z_objInit C dX0_init_1 rfl rfl q98 q99 q100 (Nat.le_of_ble_eq_true rfl) (Nat.le_of_ble_eq_true rfl) ?_
  refine z_aload_n C dX0_init_4 rfl rfl ?_
  refine z_new (fs := [.null, .null, .null, .null, .int 0, .int 0, .int 0, .int 0, .int 0, .int 0]) eK1 C dX0_init_5 rfl q101 q102 q50 rfl (Nat.le_of_ble_eq_true rfl) (Nat.le_of_ble_eq_true rfl) (fun o1 => ?_)
  show eZ x E _ [eO a 0 [.null, .null, .null], rs, eO o1 1 [.null, .null, .null, .null, .int 0, .int 0, .int 0, .int 0, .int 0, .int 0]] 8 [some (.ref a)] [.ref o1, .ref a] 1 10
  refine z_dup C dX0_init_8 rfl ?_
  refine z_iconst (v := 4) C dX0_init_9 (by decide) ?_
  refine z_newI (m := 4) C dX0_init_10 rfl (by decide) (Nat.le_of_ble_eq_true rfl) (Nat.le_of_ble_eq_true rfl) (fun a2 => ?_)
  show eZ x E _ [eO a 0 [.null, .null, .null], rs, eO o1 1 [.null, .null, .null, .null, .int 0, .int 0, .int 0, .int 0, .int 0, .int 0], eIA E a2 4 (fun _ => 0)] 12 [some (.ref a)] [.ref a2, .ref o1, .ref o1, .ref a] 2 14
  refine z_dup C dX0_init_12 rfl ?_
  refine z_iconst (v := 0) C dX0_init_13 (by decide) ?_
  refine z_iconst (v := 4) C dX0_init_14 (by decide) ?_
  refine z_iast (m := 0) (Γ2 := [eO a 0 [.null, .null, .null], rs, eO o1 1 [.null, .null, .null, .null, .int 0, .int 0, .int 0, .int 0, .int 0, .int 0], eIA E a2 4 (upd (fun _ => 0) 0 4)]) 3 C dX0_init_15 rfl rfl (by decide) (by decide) rfl ?_
  refine z_dup C dX0_init_16 rfl ?_
  refine z_iconst (v := 1) C dX0_init_17 (by decide) ?_
  refine z_iconst (v := 2) C dX0_init_18 (by decide) ?_
  refine z_iast (m := 1) (Γ2 := [eO a 0 [.null, .null, .null], rs, eO o1 1 [.null, .null, .null, .null, .int 0, .int 0, .int 0, .int 0, .int 0, .int 0], eIA E a2 4 (upd (upd (fun _ => 0) 0 4) 1 2)]) 3 C dX0_init_19 rfl rfl (by decide) (by decide) rfl ?_
  refine z_dup C dX0_init_20 rfl ?_
  refine z_iconst (v := 2) C dX0_init_21 (by decide) ?_
  refine z_iconst (v := 3) C dX0_init_22 (by decide) ?_
  refine z_iast (m := 2) (Γ2 := [eO a 0 [.null, .null, .null], rs, eO o1 1 [.null, .null, .null, .null, .int 0, .int 0, .int 0, .int 0, .int 0, .int 0], eIA E a2 4 (upd (upd (upd (fun _ => 0) 0 4) 1 2) 2 3)]) 3 C dX0_init_23 rfl rfl (by decide) (by decide) rfl ?_
  refine z_dup C dX0_init_24 rfl ?_
  refine z_iconst (v := 3) C dX0_init_25 (by decide) ?_
  refine z_iconst (v := 1) C dX0_init_26 (by decide) ?_
  refine z_iast (m := 3) (Γ2 := [eO a 0 [.null, .null, .null], rs, eO o1 1 [.null, .null, .null, .null, .int 0, .int 0, .int 0, .int 0, .int 0, .int 0], eIA E a2 4 (upd (upd (upd (upd (fun _ => 0) 0 4) 1 2) 2 3) 3 1)]) 3 C dX0_init_27 rfl rfl (by decide) (by decide) rfl ?_
  refine z_callI (As := [.ref a2]) (rest := [.ref o1, .ref a]) (Δ := [eO a 0 [.null, .null, .null], rs]) [2, 3] [0, 1] 1 (m_Machine_init hl E o1 a2 gSt0) C dX0_init_28 rfl rfl rfl q103 q104 q50 q105 rfl (by decide +kernel) rfl (ePm 4 rfl (by decide +kernel)) rfl rfl ⟨Nat.le_of_ble_eq_true rfl, Nat.le_of_ble_eq_true rfl⟩ (Nat.le_trans (eSm rfl (eSm rfl eS0)) (Nat.le_of_ble_eq_true rfl)) ⟨Nat.le_of_ble_eq_true rfl, Nat.le_of_ble_eq_true rfl⟩ (fun v_ Γ_ hp_ => ?_)
  obtain ⟨rfl, c2, rfl, hca, hab, hbk⟩ := hp_
  show eZ x E _ [eMac E c2, eO a 0 [.null, .null, .null], rs] 31 [some (.ref a)] [.ref o1, .ref a] 21 118
  subst hca
  show eZ x E _ [eMac E c2, eO a 0 [.null, .null, .null], rs] 31 [some (.ref a)] [.ref c2.a, .ref a] 21 118
  refine z_put eK0 1 0 (Γ2 := [eMac E c2, eO a 0 [.ref c2.a, .null, .null], rs]) C dX0_init_31 rfl rfl q399 (eSame1 rfl) (by decide) rfl rfl rfl rfl (Nat.le_of_ble_eq_true rfl) rfl ?_
  refine z_aload_n C dX0_init_34 rfl rfl ?_
  refine z_new (fs := [.null, .int 0, .int 0]) eK17 C dX0_init_35 rfl q348 q349 q62 rfl (Nat.le_of_ble_eq_true rfl) (Nat.le_of_ble_eq_true rfl) (fun o3 => ?_)
  show eZ x E _ [eMac E c2, eO a 0 [.ref c2.a, .null, .null], rs, eO o3 17 [.null, .int 0, .int 0]] 38 [some (.ref a)] [.ref o3, .ref a] 22 121
  refine z_dup C dX0_init_38 rfl ?_
  refine z_callI (As := []) (rest := [.ref o3, .ref a]) (Δ := [eMac E c2, eO a 0 [.ref c2.a, .null, .null], rs]) [3] [0, 1, 2] 0 (m_AD_init hl E o3) C dX0_init_39 rfl rfl rfl q350 q351 q62 q352 rfl (by decide +kernel) rfl (ePm 4 rfl (by decide +kernel)) rfl rfl ⟨Nat.le_of_ble_eq_true rfl, Nat.le_of_ble_eq_true rfl⟩ (Nat.le_trans (eSm rfl (eSm rfl eS0)) (Nat.le_of_ble_eq_true rfl)) ⟨Nat.le_of_ble_eq_true rfl, Nat.le_of_ble_eq_true rfl⟩ (fun v_ Γ_ hp_ => ?_)
  obtain ⟨rfl, da, rfl⟩ := hp_
  show eZ x E _ [eAD E o3 da 0 [], eMac E c2, eO a 0 [.ref c2.a, .null, .null], rs] 42 [some (.ref a)] [.ref o3, .ref a] 23 138
  refine z_putF eK0 2 1 (Γ2 := [eAD E o3 da 0 [], eMac E c2, eO a 0 [.ref c2.a, .ref o3, .null], rs]) C dX0_init_42 rfl rfl q400 (eSame1 rfl) (by decide) rfl rfl rfl rfl rfl rfl (Nat.le_of_ble_eq_true rfl) rfl ?_
  refine z_aload_n C dX0_init_45 rfl rfl ?_
  refine z_new (fs := [.null, .int 0, .int 0, .int 0]) eK18 C dX0_init_46 rfl q365 q366 q64 rfl (Nat.le_of_ble_eq_true rfl) (Nat.le_of_ble_eq_true rfl) (fun o4 => ?_)
  show eZ x E _ [eAD E o3 da 0 [], eMac E c2, eO a 0 [.ref c2.a, .ref o3, .null], rs, eO o4 18 [.null, .int 0, .int 0, .int 0]] 49 [some (.ref a)] [.ref o4, .ref a] 24 142
  refine z_dup C dX0_init_49 rfl ?_
  refine z_callI (As := []) (rest := [.ref o4, .ref a]) (Δ := [eAD E o3 da 0 [], eMac E c2, eO a 0 [.ref c2.a, .ref o3, .null], rs]) [4] [0, 1, 2, 3] 0 (m_SB_init hl E o4) C dX0_init_50 rfl rfl rfl q367 q368 q64 q369 rfl (by decide +kernel) rfl (ePm 5 rfl (by decide +kernel)) rfl rfl ⟨Nat.le_of_ble_eq_true rfl, Nat.le_of_ble_eq_true rfl⟩ (Nat.le_trans (eSm rfl (eSm rfl eS0)) (Nat.le_of_ble_eq_true rfl)) ⟨Nat.le_of_ble_eq_true rfl, Nat.le_of_ble_eq_true rfl⟩ (fun v_ Γ_ hp_ => ?_)
  obtain ⟨rfl, sv, rfl⟩ := hp_
  show eZ x E _ [eSB E o4 sv 16 0 0 (fun _ => 0), eAD E o3 da 0 [], eMac E c2, eO a 0 [.ref c2.a, .ref o3, .null], rs] 53 [some (.ref a)] [.ref o4, .ref a] 25 158
  refine z_putF eK0 3 2 (Γ2 := [eSB E o4 sv 16 0 0 (fun _ => 0), eAD E o3 da 0 [], eMac E c2, eO a 0 [.ref c2.a, .ref o3, .ref o4], rs]) C dX0_init_53 rfl rfl q402 (eSame1 rfl) (by decide) rfl rfl rfl rfl rfl rfl (Nat.le_of_ble_eq_true rfl) rfl ?_
  refine z_pick (Γ' := [eO a 0 [.ref c2.a, .ref o3, .ref o4], eMac E c2, eAD E o3 da 0 [], eSB E o4 sv 16 0 0 (fun _ => 0), rs]) [3, 2, 1, 0, 4] (ePm 5 rfl (by decide +kernel)) rfl ?_
  refine z_eq (Γ' := [eO a 0 [.ref c2.a, .ref o3, .ref o4], eMac E c2, eAD E o3 da 0 [], eSB E o4 sv 16 0 0 (fun _ => 0), eMacs E [], eSto [], rs]) (by simp [eMacs_nil, eSto]) ?_
  show eZ x E _ [eO a 0 [.ref c2.a, .ref o3, .ref o4], eMac E c2, eAD E o3 da 0 [], eSB E o4 sv 16 0 0 (fun _ => 0), eMacs E [], eSto [], rs] 56 [some (.ref a)] [] 25 158
  refine z_pick (Γ' := [eO a 0 [.ref c2.a, .ref o3, .ref o4], eMac E c2, eAD E o3 da 0 [], eMacs E [], eSB E o4 sv 16 0 0 (fun _ => 0), eSto [], rs]) [0, 1, 2, 4, 3, 5, 6] (ePm 7 rfl (by decide +kernel)) rfl ?_
  refine z_join 6 (b := eSys E (a, c2, o3, da, 0, [], o4, sv, 16, 0, [], (fun _ => 0), [])) (by rw [eSys_cut]; rfl) rfl ?_
  show eZ x E _ [eSys E (a, c2, o3, da, 0, [], o4, sv, 16, 0, [], (fun _ => 0), []), rs] 56 [some (.ref a)] [] 25 158
  subst hQ_
  exact z_vret (Γ := [eSys E (a, c2, o3, da, 0, [], o4, sv, 16, 0, [], (fun _ => 0), [])]) C dX0_init_56 rfl (Nat.le_of_ble_eq_true rfl) (Nat.le_of_ble_eq_true rfl) ⟨rfl, (a, c2, o3, da, 0, [], o4, sv, 16, 0, [], (fun _ => 0), []), rfl, by show ((c2.abs, [], []) : As) = (gNew gSt0, [], []); rw [hab], ⟨(by show gOk c2.abs; rw [hab]; exact gNew_ok), (by show eBkS c2 []; intro z hz; rw [hbk] at hz; cases hz), (fun _ h => absurd h List.not_mem_nil), Nat.zero_le _, (by show (0 : Nat) < 17; decide), Nat.zero_le _, Nat.zero_le _, (by show 16 ≤ 122; decide), (fun _ _ => rfl), (fun _ h => absurd h List.not_mem_nil), fun i c h => by cases h⟩, rfl⟩
