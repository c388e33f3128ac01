/-! ===== constructors of the exceptions ===== -/
set_option maxRecDepth 100000
theorem e_fitRA (t : FieldType) (r : Option Nat) : fits (.array t) (va_rf r) = true := by cases r <;> rfl
theorem e_narRA (t : FieldType) (r : Option Nat) : narrow (.array t) (va_rf r) = va_rf r := by cases r <;> rfl

set_option maxHeartbeats 4000000 in
theorem m_Thr_init_X6 {l : Launch} (hl : l.stackTraces = false) (E : eEn) (a g : Nat) : eMet l E yJ16_init_3 (ws_ yJ16_init_3 cJ16_init_3 2 none) ({ frames := 3, cells := 0, slots := 0, locals := 40 }) [.ref a, .ref g] [eO a 6 [.null, .null, .null, .null, .null, .int 0, .int 0]] (fun v Γ => v = none ∧ ∃ r1 r2, Γ = [eO a 6 [.ref a, va_rf r1, va_rf r2, .ref g, .null, .int 0, .int 0]]) := by
  refine eStart (cc := cJ16_init_3) (nL := 2) (L := [some (.ref a), some (.ref g)]) hl (by decide) rfl (List.forall_mem_cons.mpr ⟨rfl, (List.forall_mem_cons.mpr ⟨rfl, (fun _ h => absurd h List.not_mem_nil)⟩)⟩) (Nat.le_of_ble_eq_true rfl) ?_
  intro x rs C
  show eZ x E (eQ x E (fun v Γ => v = none ∧ ∃ r1 r2, Γ = [eO a 6 [.ref a, va_rf r1, va_rf r2, .ref g, .null, .int 0, .int 0]]) rs) [eO a 6 [.null, .null, .null, .null, .null, .int 0, .int 0], rs] 0 [some (.ref a), some (.ref g)] [] 0 0
  refine z_aload_n C dJ16_init_3_0 rfl rfl ?_
  refine z_objInit C dJ16_init_3_1 rfl rfl q558 q99 q100 (Nat.le_of_ble_eq_true rfl) (Nat.le_of_ble_eq_true rfl) ?_
  refine z_aload_n C dJ16_init_3_4 rfl rfl ?_
  refine z_aload_n C dJ16_init_3_5 rfl rfl ?_
  refine z_put eK6 0 0 (Γ2 := [eO a 6 [.ref a, .null, .null, .null, .null, .int 0, .int 0], rs]) C dJ16_init_3_6 rfl rfl q784 (eSame1 rfl) (by decide) rfl rfl rfl rfl (Nat.le_of_ble_eq_true rfl) rfl ?_
  refine z_aload_n C dJ16_init_3_9 rfl rfl ?_
  refine z_getsU C dJ16_init_3_10 rfl q559 rfl (fun r1 hU2 => ?_)
  refine z_put eK6 0 1 (Γ2 := [eO a 6 [.ref a, va_rf r1, .null, .null, .null, .int 0, .int 0], rs]) C dJ16_init_3_13 rfl rfl q785 (eSame1 rfl) (by decide) rfl rfl (e_narRA _ _) (e_fitRA _ _) (Nat.le_of_ble_eq_true rfl) rfl ?_
  refine z_aload_n C dJ16_init_3_16 rfl rfl ?_
  refine z_getsN C dJ16_init_3_17 rfl q561 rfl (fun r3 => ?_)
  refine z_put eK6 0 2 (Γ2 := [eO a 6 [.ref a, va_rf r1, va_rf r3, .null, .null, .int 0, .int 0], rs]) C dJ16_init_3_20 rfl rfl q786 (eSame1 rfl) (by decide) rfl rfl (e_narR _ _) (e_fitR _ _) (Nat.le_of_ble_eq_true rfl) rfl ?_
  refine z_aload_n C dJ16_init_3_23 rfl rfl ?_
  refine z_fill 1 4 eK6 0 C rfl dJ16_init_3_24 rfl rfl hU2 (by decide) (by decide) rfl rfl rfl rfl q568 q1006 q1008 (Nat.le_of_ble_eq_true rfl) (Nat.le_of_ble_eq_true rfl) ?_
  refine z_pop C dJ16_init_3_27 rfl ?_
  refine z_aload_n C dJ16_init_3_28 rfl rfl ?_
  refine z_aload_n C dJ16_init_3_29 rfl rfl ?_
  refine z_put eK6 0 3 (Γ2 := [eO a 6 [.ref a, va_rf r1, va_rf r3, .ref g, .null, .int 0, .int 0], rs]) C dJ16_init_3_30 rfl rfl q783 (eSame1 rfl) (by decide) rfl rfl rfl rfl (Nat.le_of_ble_eq_true rfl) rfl ?_
  exact z_vret (Γ := [eO a 6 [.ref a, va_rf r1, va_rf r3, .ref g, .null, .int 0, .int 0]]) C dJ16_init_3_33 rfl (Nat.le_of_ble_eq_true rfl) (Nat.le_of_ble_eq_true rfl) ⟨rfl, r1, r3, rfl⟩

set_option maxHeartbeats 4000000 in
theorem m_Exc_init_X6 {l : Launch} (hl : l.stackTraces = false) (E : eEn) (a g : Nat) : eMet l E yJ17_init_2 (ws_ yJ17_init_2 cJ17_init_2 2 none) ({ frames := 4, cells := 0, slots := 0, locals := 61 }) [.ref a, .ref g] [eO a 6 [.null, .null, .null, .null, .null, .int 0, .int 0]] (fun v Γ => v = none ∧ ∃ r1 r2, Γ = [eO a 6 [.ref a, va_rf r1, va_rf r2, .ref g, .null, .int 0, .int 0]]) := by
  refine eStart (cc := cJ17_init_2) (nL := 2) (L := [some (.ref a), some (.ref g)]) hl (by decide) rfl (List.forall_mem_cons.mpr ⟨rfl, (List.forall_mem_cons.mpr ⟨rfl, (fun _ h => absurd h List.not_mem_nil)⟩)⟩) (Nat.le_of_ble_eq_true rfl) ?_
  intro x rs C
  show eZ x E (eQ x E (fun v Γ => v = none ∧ ∃ r1 r2, Γ = [eO a 6 [.ref a, va_rf r1, va_rf r2, .ref g, .null, .int 0, .int 0]]) rs) [eO a 6 [.null, .null, .null, .null, .null, .int 0, .int 0], rs] 0 [some (.ref a), some (.ref g)] [] 0 0
  refine z_aload_n C dJ17_init_2_0 rfl rfl ?_
  refine z_aload_n C dJ17_init_2_1 rfl rfl ?_
  refine z_callI (As := [.ref g]) (rest := []) (Δ := [rs]) [0] [1] 1 (m_Thr_init_X6 hl E a g) C dJ17_init_2_2 rfl rfl rfl q1019 q1020 q71 q1021 rfl (by decide +kernel) rfl rfl rfl rfl ⟨Nat.le_of_ble_eq_true rfl, Nat.le_of_ble_eq_true rfl⟩ (Nat.le_trans eS0 (Nat.le_of_ble_eq_true rfl)) ⟨Nat.le_of_ble_eq_true rfl, Nat.le_of_ble_eq_true rfl⟩ (fun v_ Γ_ hp_ => ?_)
  obtain ⟨rfl, r1, r2, rfl⟩ := hp_
  show eZ x E _ [eO a 6 [.ref a, va_rf r1, va_rf r2, .ref g, .null, .int 0, .int 0], rs] 5 [some (.ref a), some (.ref g)] [] 0 0
  exact z_vret (Γ := [eO a 6 [.ref a, va_rf r1, va_rf r2, .ref g, .null, .int 0, .int 0]]) C dJ17_init_2_5 rfl (Nat.le_of_ble_eq_true rfl) (Nat.le_of_ble_eq_true rfl) ⟨rfl, r1, r2, rfl⟩

set_option maxHeartbeats 4000000 in
theorem m_Thr_init_X7 {l : Launch} (hl : l.stackTraces = false) (E : eEn) (a g : Nat) : eMet l E yJ16_init_3 (ws_ yJ16_init_3 cJ16_init_3 2 none) ({ frames := 3, cells := 0, slots := 0, locals := 40 }) [.ref a, .ref g] [eO a 7 [.null, .null, .null, .null, .null, .int 0]] (fun v Γ => v = none ∧ ∃ r1 r2, Γ = [eO a 7 [.ref a, va_rf r1, va_rf r2, .ref g, .null, .int 0]]) := by
  refine eStart (cc := cJ16_init_3) (nL := 2) (L := [some (.ref a), some (.ref g)]) hl (by decide) rfl (List.forall_mem_cons.mpr ⟨rfl, (List.forall_mem_cons.mpr ⟨rfl, (fun _ h => absurd h List.not_mem_nil)⟩)⟩) (Nat.le_of_ble_eq_true rfl) ?_
  intro x rs C
  show eZ x E (eQ x E (fun v Γ => v = none ∧ ∃ r1 r2, Γ = [eO a 7 [.ref a, va_rf r1, va_rf r2, .ref g, .null, .int 0]]) rs) [eO a 7 [.null, .null, .null, .null, .null, .int 0], rs] 0 [some (.ref a), some (.ref g)] [] 0 0
  refine z_aload_n C dJ16_init_3_0 rfl rfl ?_
  refine z_objInit C dJ16_init_3_1 rfl rfl q558 q99 q100 (Nat.le_of_ble_eq_true rfl) (Nat.le_of_ble_eq_true rfl) ?_
  refine z_aload_n C dJ16_init_3_4 rfl rfl ?_
  refine z_aload_n C dJ16_init_3_5 rfl rfl ?_
  refine z_put eK7 0 0 (Γ2 := [eO a 7 [.ref a, .null, .null, .null, .null, .int 0], rs]) C dJ16_init_3_6 rfl rfl q784 (eSame1 rfl) (by decide) rfl rfl rfl rfl (Nat.le_of_ble_eq_true rfl) rfl ?_
  refine z_aload_n C dJ16_init_3_9 rfl rfl ?_
  refine z_getsU C dJ16_init_3_10 rfl q559 rfl (fun r1 hU2 => ?_)
  refine z_put eK7 0 1 (Γ2 := [eO a 7 [.ref a, va_rf r1, .null, .null, .null, .int 0], rs]) C dJ16_init_3_13 rfl rfl q785 (eSame1 rfl) (by decide) rfl rfl (e_narRA _ _) (e_fitRA _ _) (Nat.le_of_ble_eq_true rfl) rfl ?_
  refine z_aload_n C dJ16_init_3_16 rfl rfl ?_
  refine z_getsN C dJ16_init_3_17 rfl q561 rfl (fun r3 => ?_)
  refine z_put eK7 0 2 (Γ2 := [eO a 7 [.ref a, va_rf r1, va_rf r3, .null, .null, .int 0], rs]) C dJ16_init_3_20 rfl rfl q786 (eSame1 rfl) (by decide) rfl rfl (e_narR _ _) (e_fitR _ _) (Nat.le_of_ble_eq_true rfl) rfl ?_
  refine z_aload_n C dJ16_init_3_23 rfl rfl ?_
  refine z_fill 1 4 eK7 0 C rfl dJ16_init_3_24 rfl rfl hU2 (by decide) (by decide) rfl rfl rfl rfl q569 q1087 q1089 (Nat.le_of_ble_eq_true rfl) (Nat.le_of_ble_eq_true rfl) ?_
  refine z_pop C dJ16_init_3_27 rfl ?_
  refine z_aload_n C dJ16_init_3_28 rfl rfl ?_
  refine z_aload_n C dJ16_init_3_29 rfl rfl ?_
  refine z_put eK7 0 3 (Γ2 := [eO a 7 [.ref a, va_rf r1, va_rf r3, .ref g, .null, .int 0], rs]) C dJ16_init_3_30 rfl rfl q783 (eSame1 rfl) (by decide) rfl rfl rfl rfl (Nat.le_of_ble_eq_true rfl) rfl ?_
  exact z_vret (Γ := [eO a 7 [.ref a, va_rf r1, va_rf r3, .ref g, .null, .int 0]]) C dJ16_init_3_33 rfl (Nat.le_of_ble_eq_true rfl) (Nat.le_of_ble_eq_true rfl) ⟨rfl, r1, r3, rfl⟩

set_option maxHeartbeats 4000000 in
theorem m_Exc_init_X7 {l : Launch} (hl : l.stackTraces = false) (E : eEn) (a g : Nat) : eMet l E yJ17_init_2 (ws_ yJ17_init_2 cJ17_init_2 2 none) ({ frames := 4, cells := 0, slots := 0, locals := 61 }) [.ref a, .ref g] [eO a 7 [.null, .null, .null, .null, .null, .int 0]] (fun v Γ => v = none ∧ ∃ r1 r2, Γ = [eO a 7 [.ref a, va_rf r1, va_rf r2, .ref g, .null, .int 0]]) := by
  refine eStart (cc := cJ17_init_2) (nL := 2) (L := [some (.ref a), some (.ref g)]) hl (by decide) rfl (List.forall_mem_cons.mpr ⟨rfl, (List.forall_mem_cons.mpr ⟨rfl, (fun _ h => absurd h List.not_mem_nil)⟩)⟩) (Nat.le_of_ble_eq_true rfl) ?_
  intro x rs C
  show eZ x E (eQ x E (fun v Γ => v = none ∧ ∃ r1 r2, Γ = [eO a 7 [.ref a, va_rf r1, va_rf r2, .ref g, .null, .int 0]]) rs) [eO a 7 [.null, .null, .null, .null, .null, .int 0], rs] 0 [some (.ref a), some (.ref g)] [] 0 0
  refine z_aload_n C dJ17_init_2_0 rfl rfl ?_
  refine z_aload_n C dJ17_init_2_1 rfl rfl ?_
  refine z_callI (As := [.ref g]) (rest := []) (Δ := [rs]) [0] [1] 1 (m_Thr_init_X7 hl E a g) C dJ17_init_2_2 rfl rfl rfl q1019 q1020 q71 q1021 rfl (by decide +kernel) rfl rfl rfl rfl ⟨Nat.le_of_ble_eq_true rfl, Nat.le_of_ble_eq_true rfl⟩ (Nat.le_trans eS0 (Nat.le_of_ble_eq_true rfl)) ⟨Nat.le_of_ble_eq_true rfl, Nat.le_of_ble_eq_true rfl⟩ (fun v_ Γ_ hp_ => ?_)
  obtain ⟨rfl, r1, r2, rfl⟩ := hp_
  show eZ x E _ [eO a 7 [.ref a, va_rf r1, va_rf r2, .ref g, .null, .int 0], rs] 5 [some (.ref a), some (.ref g)] [] 0 0
  exact z_vret (Γ := [eO a 7 [.ref a, va_rf r1, va_rf r2, .ref g, .null, .int 0]]) C dJ17_init_2_5 rfl (Nat.le_of_ble_eq_true rfl) (Nat.le_of_ble_eq_true rfl) ⟨rfl, r1, r2, rfl⟩

set_option maxHeartbeats 4000000 in
theorem m_Thr_init_X9 {l : Launch} (hl : l.stackTraces = false) (E : eEn) (a g : Nat) : eMet l E yJ16_init_3 (ws_ yJ16_init_3 cJ16_init_3 2 none) ({ frames := 3, cells := 0, slots := 0, locals := 40 }) [.ref a, .ref g] [eO a 8 [.int 0, .null, .null, .null, .null, .null, .int 0]] (fun v Γ => v = none ∧ ∃ r1 r2, Γ = [eO a 8 [.int 0, .ref a, va_rf r1, va_rf r2, .ref g, .null, .int 0]]) := by
  refine eStart (cc := cJ16_init_3) (nL := 2) (L := [some (.ref a), some (.ref g)]) hl (by decide) rfl (List.forall_mem_cons.mpr ⟨rfl, (List.forall_mem_cons.mpr ⟨rfl, (fun _ h => absurd h List.not_mem_nil)⟩)⟩) (Nat.le_of_ble_eq_true rfl) ?_
  intro x rs C
  show eZ x E (eQ x E (fun v Γ => v = none ∧ ∃ r1 r2, Γ = [eO a 8 [.int 0, .ref a, va_rf r1, va_rf r2, .ref g, .null, .int 0]]) rs) [eO a 8 [.int 0, .null, .null, .null, .null, .null, .int 0], rs] 0 [some (.ref a), some (.ref g)] [] 0 0
  refine z_aload_n C dJ16_init_3_0 rfl rfl ?_
  refine z_objInit C dJ16_init_3_1 rfl rfl q558 q99 q100 (Nat.le_of_ble_eq_true rfl) (Nat.le_of_ble_eq_true rfl) ?_
  refine z_aload_n C dJ16_init_3_4 rfl rfl ?_
  refine z_aload_n C dJ16_init_3_5 rfl rfl ?_
  refine z_put eK8 0 1 (Γ2 := [eO a 8 [.int 0, .ref a, .null, .null, .null, .null, .int 0], rs]) C dJ16_init_3_6 rfl rfl q784 (eSame1 rfl) (by decide) rfl rfl rfl rfl (Nat.le_of_ble_eq_true rfl) rfl ?_
  refine z_aload_n C dJ16_init_3_9 rfl rfl ?_
  refine z_getsU C dJ16_init_3_10 rfl q559 rfl (fun r1 hU2 => ?_)
  refine z_put eK8 0 2 (Γ2 := [eO a 8 [.int 0, .ref a, va_rf r1, .null, .null, .null, .int 0], rs]) C dJ16_init_3_13 rfl rfl q785 (eSame1 rfl) (by decide) rfl rfl (e_narRA _ _) (e_fitRA _ _) (Nat.le_of_ble_eq_true rfl) rfl ?_
  refine z_aload_n C dJ16_init_3_16 rfl rfl ?_
  refine z_getsN C dJ16_init_3_17 rfl q561 rfl (fun r3 => ?_)
  refine z_put eK8 0 3 (Γ2 := [eO a 8 [.int 0, .ref a, va_rf r1, va_rf r3, .null, .null, .int 0], rs]) C dJ16_init_3_20 rfl rfl q786 (eSame1 rfl) (by decide) rfl rfl (e_narR _ _) (e_fitR _ _) (Nat.le_of_ble_eq_true rfl) rfl ?_
  refine z_aload_n C dJ16_init_3_23 rfl rfl ?_
  refine z_fill 2 5 eK8 0 C rfl dJ16_init_3_24 rfl rfl hU2 (by decide) (by decide) rfl rfl rfl rfl q567 q1120 q1122 (Nat.le_of_ble_eq_true rfl) (Nat.le_of_ble_eq_true rfl) ?_
  refine z_pop C dJ16_init_3_27 rfl ?_
  refine z_aload_n C dJ16_init_3_28 rfl rfl ?_
  refine z_aload_n C dJ16_init_3_29 rfl rfl ?_
  refine z_put eK8 0 4 (Γ2 := [eO a 8 [.int 0, .ref a, va_rf r1, va_rf r3, .ref g, .null, .int 0], rs]) C dJ16_init_3_30 rfl rfl q783 (eSame1 rfl) (by decide) rfl rfl rfl rfl (Nat.le_of_ble_eq_true rfl) rfl ?_
  exact z_vret (Γ := [eO a 8 [.int 0, .ref a, va_rf r1, va_rf r3, .ref g, .null, .int 0]]) C dJ16_init_3_33 rfl (Nat.le_of_ble_eq_true rfl) (Nat.le_of_ble_eq_true rfl) ⟨rfl, r1, r3, rfl⟩

set_option maxHeartbeats 4000000 in
theorem m_Exc_init_X9 {l : Launch} (hl : l.stackTraces = false) (E : eEn) (a g : Nat) : eMet l E yJ17_init_2 (ws_ yJ17_init_2 cJ17_init_2 2 none) ({ frames := 4, cells := 0, slots := 0, locals := 61 }) [.ref a, .ref g] [eO a 8 [.int 0, .null, .null, .null, .null, .null, .int 0]] (fun v Γ => v = none ∧ ∃ r1 r2, Γ = [eO a 8 [.int 0, .ref a, va_rf r1, va_rf r2, .ref g, .null, .int 0]]) := by
  refine eStart (cc := cJ17_init_2) (nL := 2) (L := [some (.ref a), some (.ref g)]) hl (by decide) rfl (List.forall_mem_cons.mpr ⟨rfl, (List.forall_mem_cons.mpr ⟨rfl, (fun _ h => absurd h List.not_mem_nil)⟩)⟩) (Nat.le_of_ble_eq_true rfl) ?_
  intro x rs C
  show eZ x E (eQ x E (fun v Γ => v = none ∧ ∃ r1 r2, Γ = [eO a 8 [.int 0, .ref a, va_rf r1, va_rf r2, .ref g, .null, .int 0]]) rs) [eO a 8 [.int 0, .null, .null, .null, .null, .null, .int 0], rs] 0 [some (.ref a), some (.ref g)] [] 0 0
  refine z_aload_n C dJ17_init_2_0 rfl rfl ?_
  refine z_aload_n C dJ17_init_2_1 rfl rfl ?_
  refine z_callI (As := [.ref g]) (rest := []) (Δ := [rs]) [0] [1] 1 (m_Thr_init_X9 hl E a g) C dJ17_init_2_2 rfl rfl rfl q1019 q1020 q71 q1021 rfl (by decide +kernel) rfl rfl rfl rfl ⟨Nat.le_of_ble_eq_true rfl, Nat.le_of_ble_eq_true rfl⟩ (Nat.le_trans eS0 (Nat.le_of_ble_eq_true rfl)) ⟨Nat.le_of_ble_eq_true rfl, Nat.le_of_ble_eq_true rfl⟩ (fun v_ Γ_ hp_ => ?_)
  obtain ⟨rfl, r1, r2, rfl⟩ := hp_
  show eZ x E _ [eO a 8 [.int 0, .ref a, va_rf r1, va_rf r2, .ref g, .null, .int 0], rs] 5 [some (.ref a), some (.ref g)] [] 0 0
  exact z_vret (Γ := [eO a 8 [.int 0, .ref a, va_rf r1, va_rf r2, .ref g, .null, .int 0]]) C dJ17_init_2_5 rfl (Nat.le_of_ble_eq_true rfl) (Nat.le_of_ble_eq_true rfl) ⟨rfl, r1, r2, rfl⟩

set_option maxHeartbeats 4000000 in
theorem m_Thr_init_X10 {l : Launch} (hl : l.stackTraces = false) (E : eEn) (a g : Nat) : eMet l E yJ16_init_3 (ws_ yJ16_init_3 cJ16_init_3 2 none) ({ frames := 3, cells := 0, slots := 0, locals := 40 }) [.ref a, .ref g] [eO a 9 [.int 0, .null, .null, .null, .null, .null, .int 0]] (fun v Γ => v = none ∧ ∃ r1 r2, Γ = [eO a 9 [.int 0, .ref a, va_rf r1, va_rf r2, .ref g, .null, .int 0]]) := by
  refine eStart (cc := cJ16_init_3) (nL := 2) (L := [some (.ref a), some (.ref g)]) hl (by decide) rfl (List.forall_mem_cons.mpr ⟨rfl, (List.forall_mem_cons.mpr ⟨rfl, (fun _ h => absurd h List.not_mem_nil)⟩)⟩) (Nat.le_of_ble_eq_true rfl) ?_
  intro x rs C
  show eZ x E (eQ x E (fun v Γ => v = none ∧ ∃ r1 r2, Γ = [eO a 9 [.int 0, .ref a, va_rf r1, va_rf r2, .ref g, .null, .int 0]]) rs) [eO a 9 [.int 0, .null, .null, .null, .null, .null, .int 0], rs] 0 [some (.ref a), some (.ref g)] [] 0 0
  refine z_aload_n C dJ16_init_3_0 rfl rfl ?_
  refine z_objInit C dJ16_init_3_1 rfl rfl q558 q99 q100 (Nat.le_of_ble_eq_true rfl) (Nat.le_of_ble_eq_true rfl) ?_
  refine z_aload_n C dJ16_init_3_4 rfl rfl ?_
  refine z_aload_n C dJ16_init_3_5 rfl rfl ?_
  refine z_put eK9 0 1 (Γ2 := [eO a 9 [.int 0, .ref a, .null, .null, .null, .null, .int 0], rs]) C dJ16_init_3_6 rfl rfl q784 (eSame1 rfl) (by decide) rfl rfl rfl rfl (Nat.le_of_ble_eq_true rfl) rfl ?_
  refine z_aload_n C dJ16_init_3_9 rfl rfl ?_
  refine z_getsU C dJ16_init_3_10 rfl q559 rfl (fun r1 hU2 => ?_)
  refine z_put eK9 0 2 (Γ2 := [eO a 9 [.int 0, .ref a, va_rf r1, .null, .null, .null, .int 0], rs]) C dJ16_init_3_13 rfl rfl q785 (eSame1 rfl) (by decide) rfl rfl (e_narRA _ _) (e_fitRA _ _) (Nat.le_of_ble_eq_true rfl) rfl ?_
  refine z_aload_n C dJ16_init_3_16 rfl rfl ?_
  refine z_getsN C dJ16_init_3_17 rfl q561 rfl (fun r3 => ?_)
  refine z_put eK9 0 3 (Γ2 := [eO a 9 [.int 0, .ref a, va_rf r1, va_rf r3, .null, .null, .int 0], rs]) C dJ16_init_3_20 rfl rfl q786 (eSame1 rfl) (by decide) rfl rfl (e_narR _ _) (e_fitR _ _) (Nat.le_of_ble_eq_true rfl) rfl ?_
  refine z_aload_n C dJ16_init_3_23 rfl rfl ?_
  refine z_fill 2 5 eK9 0 C rfl dJ16_init_3_24 rfl rfl hU2 (by decide) (by decide) rfl rfl rfl rfl q566 q1147 q1149 (Nat.le_of_ble_eq_true rfl) (Nat.le_of_ble_eq_true rfl) ?_
  refine z_pop C dJ16_init_3_27 rfl ?_
  refine z_aload_n C dJ16_init_3_28 rfl rfl ?_
  refine z_aload_n C dJ16_init_3_29 rfl rfl ?_
  refine z_put eK9 0 4 (Γ2 := [eO a 9 [.int 0, .ref a, va_rf r1, va_rf r3, .ref g, .null, .int 0], rs]) C dJ16_init_3_30 rfl rfl q783 (eSame1 rfl) (by decide) rfl rfl rfl rfl (Nat.le_of_ble_eq_true rfl) rfl ?_
  exact z_vret (Γ := [eO a 9 [.int 0, .ref a, va_rf r1, va_rf r3, .ref g, .null, .int 0]]) C dJ16_init_3_33 rfl (Nat.le_of_ble_eq_true rfl) (Nat.le_of_ble_eq_true rfl) ⟨rfl, r1, r3, rfl⟩

set_option maxHeartbeats 4000000 in
theorem m_Exc_init_X10 {l : Launch} (hl : l.stackTraces = false) (E : eEn) (a g : Nat) : eMet l E yJ17_init_2 (ws_ yJ17_init_2 cJ17_init_2 2 none) ({ frames := 4, cells := 0, slots := 0, locals := 61 }) [.ref a, .ref g] [eO a 9 [.int 0, .null, .null, .null, .null, .null, .int 0]] (fun v Γ => v = none ∧ ∃ r1 r2, Γ = [eO a 9 [.int 0, .ref a, va_rf r1, va_rf r2, .ref g, .null, .int 0]]) := by
  refine eStart (cc := cJ17_init_2) (nL := 2) (L := [some (.ref a), some (.ref g)]) hl (by decide) rfl (List.forall_mem_cons.mpr ⟨rfl, (List.forall_mem_cons.mpr ⟨rfl, (fun _ h => absurd h List.not_mem_nil)⟩)⟩) (Nat.le_of_ble_eq_true rfl) ?_
  intro x rs C
  show eZ x E (eQ x E (fun v Γ => v = none ∧ ∃ r1 r2, Γ = [eO a 9 [.int 0, .ref a, va_rf r1, va_rf r2, .ref g, .null, .int 0]]) rs) [eO a 9 [.int 0, .null, .null, .null, .null, .null, .int 0], rs] 0 [some (.ref a), some (.ref g)] [] 0 0
  refine z_aload_n C dJ17_init_2_0 rfl rfl ?_
  refine z_aload_n C dJ17_init_2_1 rfl rfl ?_
  refine z_callI (As := [.ref g]) (rest := []) (Δ := [rs]) [0] [1] 1 (m_Thr_init_X10 hl E a g) C dJ17_init_2_2 rfl rfl rfl q1019 q1020 q71 q1021 rfl (by decide +kernel) rfl rfl rfl rfl ⟨Nat.le_of_ble_eq_true rfl, Nat.le_of_ble_eq_true rfl⟩ (Nat.le_trans eS0 (Nat.le_of_ble_eq_true rfl)) ⟨Nat.le_of_ble_eq_true rfl, Nat.le_of_ble_eq_true rfl⟩ (fun v_ Γ_ hp_ => ?_)
  obtain ⟨rfl, r1, r2, rfl⟩ := hp_
  show eZ x E _ [eO a 9 [.int 0, .ref a, va_rf r1, va_rf r2, .ref g, .null, .int 0], rs] 5 [some (.ref a), some (.ref g)] [] 0 0
  exact z_vret (Γ := [eO a 9 [.int 0, .ref a, va_rf r1, va_rf r2, .ref g, .null, .int 0]]) C dJ17_init_2_5 rfl (Nat.le_of_ble_eq_true rfl) (Nat.le_of_ble_eq_true rfl) ⟨rfl, r1, r2, rfl⟩

set_option maxHeartbeats 4000000 in
theorem m_Thr_init2 {l : Launch} (hl : l.stackTraces = false) (E : eEn) (a g b : Nat) : eMet l E yJ16_init_4 (ws_ yJ16_init_4 cJ16_init_4 3 none) ({ frames := 3, cells := 0, slots := 0, locals := 40 }) [.ref a, .ref g, .ref b] [eO a 7 [.null, .null, .null, .null, .null, .int 0]] (fun v Γ => v = none ∧ ∃ r1 r2, Γ = [eO a 7 [.ref b, va_rf r1, va_rf r2, .ref g, .null, .int 0]]) := by
  refine eStart (cc := cJ16_init_4) (nL := 3) (L := [some (.ref a), some (.ref g), some (.ref b)]) hl (by decide) rfl (List.forall_mem_cons.mpr ⟨rfl, (List.forall_mem_cons.mpr ⟨rfl, (List.forall_mem_cons.mpr ⟨rfl, (fun _ h => absurd h List.not_mem_nil)⟩)⟩)⟩) (Nat.le_of_ble_eq_true rfl) ?_
  intro x rs C
  show eZ x E (eQ x E (fun v Γ => v = none ∧ ∃ r1 r2, Γ = [eO a 7 [.ref b, va_rf r1, va_rf r2, .ref g, .null, .int 0]]) rs) [eO a 7 [.null, .null, .null, .null, .null, .int 0], rs] 0 [some (.ref a), some (.ref g), some (.ref b)] [] 0 0
  refine z_aload_n C dJ16_init_4_0 rfl rfl ?_
  refine z_objInit C dJ16_init_4_1 rfl rfl q558 q99 q100 (Nat.le_of_ble_eq_true rfl) (Nat.le_of_ble_eq_true rfl) ?_
  refine z_aload_n C dJ16_init_4_4 rfl rfl ?_
  refine z_aload_n C dJ16_init_4_5 rfl rfl ?_
  refine z_put eK7 0 0 (Γ2 := [eO a 7 [.ref a, .null, .null, .null, .null, .int 0], rs]) C dJ16_init_4_6 rfl rfl q784 (eSame1 rfl) (by decide) rfl rfl rfl rfl (Nat.le_of_ble_eq_true rfl) rfl ?_
  refine z_aload_n C dJ16_init_4_9 rfl rfl ?_
  refine z_getsU C dJ16_init_4_10 rfl q559 rfl (fun r1 hU2 => ?_)
  refine z_put eK7 0 1 (Γ2 := [eO a 7 [.ref a, va_rf r1, .null, .null, .null, .int 0], rs]) C dJ16_init_4_13 rfl rfl q785 (eSame1 rfl) (by decide) rfl rfl (e_narRA _ _) (e_fitRA _ _) (Nat.le_of_ble_eq_true rfl) rfl ?_
  refine z_aload_n C dJ16_init_4_16 rfl rfl ?_
  refine z_getsN C dJ16_init_4_17 rfl q561 rfl (fun r3 => ?_)
  refine z_put eK7 0 2 (Γ2 := [eO a 7 [.ref a, va_rf r1, va_rf r3, .null, .null, .int 0], rs]) C dJ16_init_4_20 rfl rfl q786 (eSame1 rfl) (by decide) rfl rfl (e_narR _ _) (e_fitR _ _) (Nat.le_of_ble_eq_true rfl) rfl ?_
  refine z_aload_n C dJ16_init_4_23 rfl rfl ?_
  refine z_fill 1 4 eK7 0 C rfl dJ16_init_4_24 rfl rfl hU2 (by decide) (by decide) rfl rfl rfl rfl q569 q1087 q1089 (Nat.le_of_ble_eq_true rfl) (Nat.le_of_ble_eq_true rfl) ?_
  refine z_pop C dJ16_init_4_27 rfl ?_
  refine z_aload_n C dJ16_init_4_28 rfl rfl ?_
  refine z_aload_n C dJ16_init_4_29 rfl rfl ?_
  refine z_put eK7 0 3 (Γ2 := [eO a 7 [.ref a, va_rf r1, va_rf r3, .ref g, .null, .int 0], rs]) C dJ16_init_4_30 rfl rfl q783 (eSame1 rfl) (by decide) rfl rfl rfl rfl (Nat.le_of_ble_eq_true rfl) rfl ?_
  refine z_aload_n C dJ16_init_4_33 rfl rfl ?_
  refine z_aload_n C dJ16_init_4_34 rfl rfl ?_
  refine z_put eK7 0 0 (Γ2 := [eO a 7 [.ref b, va_rf r1, va_rf r3, .ref g, .null, .int 0], rs]) C dJ16_init_4_35 rfl rfl q784 (eSame1 rfl) (by decide) rfl rfl rfl rfl (Nat.le_of_ble_eq_true rfl) rfl ?_
  exact z_vret (Γ := [eO a 7 [.ref b, va_rf r1, va_rf r3, .ref g, .null, .int 0]]) C dJ16_init_4_38 rfl (Nat.le_of_ble_eq_true rfl) (Nat.le_of_ble_eq_true rfl) ⟨rfl, r1, r3, rfl⟩

set_option maxHeartbeats 4000000 in
theorem m_Exc_init2 {l : Launch} (hl : l.stackTraces = false) (E : eEn) (a g b : Nat) : eMet l E yJ17_init_3 (ws_ yJ17_init_3 cJ17_init_3 3 none) ({ frames := 4, cells := 0, slots := 0, locals := 62 }) [.ref a, .ref g, .ref b] [eO a 7 [.null, .null, .null, .null, .null, .int 0]] (fun v Γ => v = none ∧ ∃ r1 r2, Γ = [eO a 7 [.ref b, va_rf r1, va_rf r2, .ref g, .null, .int 0]]) := by
  refine eStart (cc := cJ17_init_3) (nL := 3) (L := [some (.ref a), some (.ref g), some (.ref b)]) hl (by decide) rfl (List.forall_mem_cons.mpr ⟨rfl, (List.forall_mem_cons.mpr ⟨rfl, (List.forall_mem_cons.mpr ⟨rfl, (fun _ h => absurd h List.not_mem_nil)⟩)⟩)⟩) (Nat.le_of_ble_eq_true rfl) ?_
  intro x rs C
  show eZ x E (eQ x E (fun v Γ => v = none ∧ ∃ r1 r2, Γ = [eO a 7 [.ref b, va_rf r1, va_rf r2, .ref g, .null, .int 0]]) rs) [eO a 7 [.null, .null, .null, .null, .null, .int 0], rs] 0 [some (.ref a), some (.ref g), some (.ref b)] [] 0 0
  refine z_aload_n C dJ17_init_3_0 rfl rfl ?_
  refine z_aload_n C dJ17_init_3_1 rfl rfl ?_
  refine z_aload_n C dJ17_init_3_2 rfl rfl ?_
  refine z_callI (As := [.ref g, .ref b]) (rest := []) (Δ := [rs]) [0] [1] 2 (m_Thr_init2 hl E a g b) C dJ17_init_3_3 rfl rfl rfl q1179 q1180 q71 q1181 rfl (by decide +kernel) rfl rfl rfl rfl ⟨Nat.le_of_ble_eq_true rfl, Nat.le_of_ble_eq_true rfl⟩ (Nat.le_trans eS0 (Nat.le_of_ble_eq_true rfl)) ⟨Nat.le_of_ble_eq_true rfl, Nat.le_of_ble_eq_true rfl⟩ (fun v_ Γ_ hp_ => ?_)
  obtain ⟨rfl, r1, r2, rfl⟩ := hp_
  show eZ x E _ [eO a 7 [.ref b, va_rf r1, va_rf r2, .ref g, .null, .int 0], rs] 6 [some (.ref a), some (.ref g), some (.ref b)] [] 0 0
  exact z_vret (Γ := [eO a 7 [.ref b, va_rf r1, va_rf r2, .ref g, .null, .int 0]]) C dJ17_init_3_6 rfl (Nat.le_of_ble_eq_true rfl) (Nat.le_of_ble_eq_true rfl) ⟨rfl, r1, r2, rfl⟩

set_option maxHeartbeats 4000000 in
theorem m_Refused_init {l : Launch} (hl : l.stackTraces = false) (E : eEn) (a : Nat) (c : Int32) : eMet l E yX6_init (ws_ yX6_init cX6_init 2 none) ({ frames := 5, cells := 0, slots := 0, locals := 82 }) [.ref a, .int c] [eO a 6 [.null, .null, .null, .null, .null, .int 0, .int 0]] (fun v Γ => v = none ∧ ∃ r1 r2, Γ = [eO a 6 [.ref a, va_rf r1, va_rf r2, .ref (E.2.2.2 12), .null, .int 0, .int c]]) := by
  refine eStart (cc := cX6_init) (nL := 2) (L := [some (.ref a), some (.int c)]) hl (by decide) rfl (List.forall_mem_cons.mpr ⟨rfl, (List.forall_mem_cons.mpr ⟨rfl, (fun _ h => absurd h List.not_mem_nil)⟩)⟩) (Nat.le_of_ble_eq_true rfl) ?_
  intro x rs C
  show eZ x E (eQ x E (fun v Γ => v = none ∧ ∃ r1 r2, Γ = [eO a 6 [.ref a, va_rf r1, va_rf r2, .ref (E.2.2.2 12), .null, .int 0, .int c]]) rs) [eO a 6 [.null, .null, .null, .null, .null, .int 0, .int 0], rs] 0 [some (.ref a), some (.int c)] [] 0 0
  refine z_aload_n C dX6_init_0 rfl rfl ?_
  refine z_ldcS C dX6_init_1 rfl C.2.2.2.2.2.2.2.1.2.2.2.2.2.2.2.2.1 ?_
  refine z_callI (As := [.ref (E.2.2.2 12)]) (rest := []) (Δ := [rs]) [0] [1] 1 (m_Exc_init_X6 hl E a (E.2.2.2 12)) C dX6_init_3 rfl rfl rfl q1016 q1017 q72 q1018 rfl (by decide +kernel) rfl rfl rfl rfl ⟨Nat.le_of_ble_eq_true rfl, Nat.le_of_ble_eq_true rfl⟩ (Nat.le_trans eS0 (Nat.le_of_ble_eq_true rfl)) ⟨Nat.le_of_ble_eq_true rfl, Nat.le_of_ble_eq_true rfl⟩ (fun v_ Γ_ hp_ => ?_)
  obtain ⟨rfl, r1, r2, rfl⟩ := hp_
  show eZ x E _ [eO a 6 [.ref a, va_rf r1, va_rf r2, .ref (E.2.2.2 12), .null, .int 0, .int 0], rs] 6 [some (.ref a), some (.int c)] [] 0 0
  refine z_aload_n C dX6_init_6 rfl rfl ?_
  refine z_iload_n C dX6_init_7 rfl rfl ?_
  refine z_putF eK6 0 6 (Γ2 := [eO a 6 [.ref a, va_rf r1, va_rf r2, .ref (E.2.2.2 12), .null, .int 0, .int c], rs]) C dX6_init_8 rfl rfl q1022 (eSame1 rfl) (by decide) rfl rfl rfl rfl rfl rfl (Nat.le_of_ble_eq_true rfl) rfl ?_
  exact z_vret (Γ := [eO a 6 [.ref a, va_rf r1, va_rf r2, .ref (E.2.2.2 12), .null, .int 0, .int c]]) C dX6_init_11 rfl (Nat.le_of_ble_eq_true rfl) (Nat.le_of_ble_eq_true rfl) ⟨rfl, r1, r2, rfl⟩

set_option maxHeartbeats 4000000 in
theorem m_Wrong_init_X9 {l : Launch} (hl : l.stackTraces = false) (E : eEn) (a : Nat) (c : Int32) : eMet l E yX8_init (ws_ yX8_init cX8_init 2 none) ({ frames := 5, cells := 0, slots := 0, locals := 82 }) [.ref a, .int c] [eO a 8 [.int 0, .null, .null, .null, .null, .null, .int 0]] (fun v Γ => v = none ∧ ∃ r1 r2, Γ = [eO a 8 [.int c, .ref a, va_rf r1, va_rf r2, .ref (E.2.2.2 15), .null, .int 0]]) := by
  refine eStart (cc := cX8_init) (nL := 2) (L := [some (.ref a), some (.int c)]) hl (by decide) rfl (List.forall_mem_cons.mpr ⟨rfl, (List.forall_mem_cons.mpr ⟨rfl, (fun _ h => absurd h List.not_mem_nil)⟩)⟩) (Nat.le_of_ble_eq_true rfl) ?_
  intro x rs C
  show eZ x E (eQ x E (fun v Γ => v = none ∧ ∃ r1 r2, Γ = [eO a 8 [.int c, .ref a, va_rf r1, va_rf r2, .ref (E.2.2.2 15), .null, .int 0]]) rs) [eO a 8 [.int 0, .null, .null, .null, .null, .null, .int 0], rs] 0 [some (.ref a), some (.int c)] [] 0 0
  refine z_aload_n C dX8_init_0 rfl rfl ?_
  refine z_ldcS C dX8_init_1 rfl C.2.2.2.2.2.2.2.1.2.2.2.2.2.2.2.2.2.2.2 ?_
  refine z_callI (As := [.ref (E.2.2.2 15)]) (rest := []) (Δ := [rs]) [0] [1] 1 (m_Exc_init_X9 hl E a (E.2.2.2 15)) C dX8_init_3 rfl rfl rfl q1133 q1017 q72 q1018 rfl (by decide +kernel) rfl rfl rfl rfl ⟨Nat.le_of_ble_eq_true rfl, Nat.le_of_ble_eq_true rfl⟩ (Nat.le_trans eS0 (Nat.le_of_ble_eq_true rfl)) ⟨Nat.le_of_ble_eq_true rfl, Nat.le_of_ble_eq_true rfl⟩ (fun v_ Γ_ hp_ => ?_)
  obtain ⟨rfl, r1, r2, rfl⟩ := hp_
  show eZ x E _ [eO a 8 [.int 0, .ref a, va_rf r1, va_rf r2, .ref (E.2.2.2 15), .null, .int 0], rs] 6 [some (.ref a), some (.int c)] [] 0 0
  refine z_aload_n C dX8_init_6 rfl rfl ?_
  refine z_iload_n C dX8_init_7 rfl rfl ?_
  refine z_putF eK8 0 0 (Γ2 := [eO a 8 [.int c, .ref a, va_rf r1, va_rf r2, .ref (E.2.2.2 15), .null, .int 0], rs]) C dX8_init_8 rfl rfl q1134 (eSame1 rfl) (by decide) rfl rfl rfl rfl rfl rfl (Nat.le_of_ble_eq_true rfl) rfl ?_
  exact z_vret (Γ := [eO a 8 [.int c, .ref a, va_rf r1, va_rf r2, .ref (E.2.2.2 15), .null, .int 0]]) C dX8_init_11 rfl (Nat.le_of_ble_eq_true rfl) (Nat.le_of_ble_eq_true rfl) ⟨rfl, r1, r2, rfl⟩

set_option maxHeartbeats 4000000 in
theorem m_Dark_init {l : Launch} (hl : l.stackTraces = false) (E : eEn) (a : Nat) : eMet l E yX9_init (ws_ yX9_init cX9_init 1 none) ({ frames := 6, cells := 0, slots := 0, locals := 103 }) [.ref a] [eO a 8 [.int 0, .null, .null, .null, .null, .null, .int 0]] (fun v Γ => v = none ∧ ∃ r1 r2, Γ = [eO a 8 [.int 2, .ref a, va_rf r1, va_rf r2, .ref (E.2.2.2 15), .null, .int 0]]) := by
  refine eStart (cc := cX9_init) (nL := 1) (L := [some (.ref a)]) hl (by decide) rfl (List.forall_mem_cons.mpr ⟨rfl, (fun _ h => absurd h List.not_mem_nil)⟩) (Nat.le_of_ble_eq_true rfl) ?_
  intro x rs C
  show eZ x E (eQ x E (fun v Γ => v = none ∧ ∃ r1 r2, Γ = [eO a 8 [.int 2, .ref a, va_rf r1, va_rf r2, .ref (E.2.2.2 15), .null, .int 0]]) rs) [eO a 8 [.int 0, .null, .null, .null, .null, .null, .int 0], rs] 0 [some (.ref a)] [] 0 0
  refine z_aload_n C dX9_init_0 rfl rfl ?_
  refine z_iconst (v := 2) C dX9_init_1 (by decide) ?_
  refine z_callI (As := [.int 2]) (rest := []) (Δ := [rs]) [0] [1] 1 (m_Wrong_init_X9 hl E a 2) C dX9_init_2 rfl rfl rfl q1129 q1130 q84 q1131 rfl (by decide +kernel) rfl rfl rfl rfl ⟨Nat.le_of_ble_eq_true rfl, Nat.le_of_ble_eq_true rfl⟩ (Nat.le_trans eS0 (Nat.le_of_ble_eq_true rfl)) ⟨Nat.le_of_ble_eq_true rfl, Nat.le_of_ble_eq_true rfl⟩ (fun v_ Γ_ hp_ => ?_)
  obtain ⟨rfl, r1, r2, rfl⟩ := hp_
  show eZ x E _ [eO a 8 [.int 2, .ref a, va_rf r1, va_rf r2, .ref (E.2.2.2 15), .null, .int 0], rs] 5 [some (.ref a)] [] 0 0
  exact z_vret (Γ := [eO a 8 [.int 2, .ref a, va_rf r1, va_rf r2, .ref (E.2.2.2 15), .null, .int 0]]) C dX9_init_5 rfl (Nat.le_of_ble_eq_true rfl) (Nat.le_of_ble_eq_true rfl) ⟨rfl, r1, r2, rfl⟩

set_option maxHeartbeats 4000000 in
theorem m_Wrong_init_X10 {l : Launch} (hl : l.stackTraces = false) (E : eEn) (a : Nat) (c : Int32) : eMet l E yX8_init (ws_ yX8_init cX8_init 2 none) ({ frames := 5, cells := 0, slots := 0, locals := 82 }) [.ref a, .int c] [eO a 9 [.int 0, .null, .null, .null, .null, .null, .int 0]] (fun v Γ => v = none ∧ ∃ r1 r2, Γ = [eO a 9 [.int c, .ref a, va_rf r1, va_rf r2, .ref (E.2.2.2 15), .null, .int 0]]) := by
  refine eStart (cc := cX8_init) (nL := 2) (L := [some (.ref a), some (.int c)]) hl (by decide) rfl (List.forall_mem_cons.mpr ⟨rfl, (List.forall_mem_cons.mpr ⟨rfl, (fun _ h => absurd h List.not_mem_nil)⟩)⟩) (Nat.le_of_ble_eq_true rfl) ?_
  intro x rs C
  show eZ x E (eQ x E (fun v Γ => v = none ∧ ∃ r1 r2, Γ = [eO a 9 [.int c, .ref a, va_rf r1, va_rf r2, .ref (E.2.2.2 15), .null, .int 0]]) rs) [eO a 9 [.int 0, .null, .null, .null, .null, .null, .int 0], rs] 0 [some (.ref a), some (.int c)] [] 0 0
  refine z_aload_n C dX8_init_0 rfl rfl ?_
  refine z_ldcS C dX8_init_1 rfl C.2.2.2.2.2.2.2.1.2.2.2.2.2.2.2.2.2.2.2 ?_
  refine z_callI (As := [.ref (E.2.2.2 15)]) (rest := []) (Δ := [rs]) [0] [1] 1 (m_Exc_init_X10 hl E a (E.2.2.2 15)) C dX8_init_3 rfl rfl rfl q1133 q1017 q72 q1018 rfl (by decide +kernel) rfl rfl rfl rfl ⟨Nat.le_of_ble_eq_true rfl, Nat.le_of_ble_eq_true rfl⟩ (Nat.le_trans eS0 (Nat.le_of_ble_eq_true rfl)) ⟨Nat.le_of_ble_eq_true rfl, Nat.le_of_ble_eq_true rfl⟩ (fun v_ Γ_ hp_ => ?_)
  obtain ⟨rfl, r1, r2, rfl⟩ := hp_
  show eZ x E _ [eO a 9 [.int 0, .ref a, va_rf r1, va_rf r2, .ref (E.2.2.2 15), .null, .int 0], rs] 6 [some (.ref a), some (.int c)] [] 0 0
  refine z_aload_n C dX8_init_6 rfl rfl ?_
  refine z_iload_n C dX8_init_7 rfl rfl ?_
  refine z_putF eK9 0 0 (Γ2 := [eO a 9 [.int c, .ref a, va_rf r1, va_rf r2, .ref (E.2.2.2 15), .null, .int 0], rs]) C dX8_init_8 rfl rfl q1134 (eSame1 rfl) (by decide) rfl rfl rfl rfl rfl rfl (Nat.le_of_ble_eq_true rfl) rfl ?_
  exact z_vret (Γ := [eO a 9 [.int c, .ref a, va_rf r1, va_rf r2, .ref (E.2.2.2 15), .null, .int 0]]) C dX8_init_11 rfl (Nat.le_of_ble_eq_true rfl) (Nat.le_of_ble_eq_true rfl) ⟨rfl, r1, r2, rfl⟩

set_option maxHeartbeats 4000000 in
theorem m_Broken_init {l : Launch} (hl : l.stackTraces = false) (E : eEn) (a : Nat) : eMet l E yX10_init (ws_ yX10_init cX10_init 1 none) ({ frames := 6, cells := 0, slots := 0, locals := 103 }) [.ref a] [eO a 9 [.int 0, .null, .null, .null, .null, .null, .int 0]] (fun v Γ => v = none ∧ ∃ r1 r2, Γ = [eO a 9 [.int 3, .ref a, va_rf r1, va_rf r2, .ref (E.2.2.2 15), .null, .int 0]]) := by
  refine eStart (cc := cX10_init) (nL := 1) (L := [some (.ref a)]) hl (by decide) rfl (List.forall_mem_cons.mpr ⟨rfl, (fun _ h => absurd h List.not_mem_nil)⟩) (Nat.le_of_ble_eq_true rfl) ?_
  intro x rs C
  show eZ x E (eQ x E (fun v Γ => v = none ∧ ∃ r1 r2, Γ = [eO a 9 [.int 3, .ref a, va_rf r1, va_rf r2, .ref (E.2.2.2 15), .null, .int 0]]) rs) [eO a 9 [.int 0, .null, .null, .null, .null, .null, .int 0], rs] 0 [some (.ref a)] [] 0 0
  refine z_aload_n C dX10_init_0 rfl rfl ?_
  refine z_iconst (v := 3) C dX10_init_1 (by decide) ?_
  refine z_callI (As := [.int 3]) (rest := []) (Δ := [rs]) [0] [1] 1 (m_Wrong_init_X10 hl E a 3) C dX10_init_2 rfl rfl rfl q1156 q1130 q84 q1131 rfl (by decide +kernel) rfl rfl rfl rfl ⟨Nat.le_of_ble_eq_true rfl, Nat.le_of_ble_eq_true rfl⟩ (Nat.le_trans eS0 (Nat.le_of_ble_eq_true rfl)) ⟨Nat.le_of_ble_eq_true rfl, Nat.le_of_ble_eq_true rfl⟩ (fun v_ Γ_ hp_ => ?_)
  obtain ⟨rfl, r1, r2, rfl⟩ := hp_
  show eZ x E _ [eO a 9 [.int 3, .ref a, va_rf r1, va_rf r2, .ref (E.2.2.2 15), .null, .int 0], rs] 5 [some (.ref a)] [] 0 0
  exact z_vret (Γ := [eO a 9 [.int 3, .ref a, va_rf r1, va_rf r2, .ref (E.2.2.2 15), .null, .int 0]]) C dX10_init_5 rfl (Nat.le_of_ble_eq_true rfl) (Nat.le_of_ble_eq_true rfl) ⟨rfl, r1, r2, rfl⟩

set_option maxHeartbeats 4000000 in
theorem m_Ungraded_init {l : Launch} (hl : l.stackTraces = false) (E : eEn) (a : Nat) : eMet l E yX7_init (ws_ yX7_init cX7_init 1 none) ({ frames := 5, cells := 0, slots := 0, locals := 82 }) [.ref a] [eO a 7 [.null, .null, .null, .null, .null, .int 0]] (fun v Γ => v = none ∧ ∃ r1 r2, Γ = [eO a 7 [.ref a, va_rf r1, va_rf r2, .ref (E.2.2.2 13), .null, .int 0]]) := by
  refine eStart (cc := cX7_init) (nL := 1) (L := [some (.ref a)]) hl (by decide) rfl (List.forall_mem_cons.mpr ⟨rfl, (fun _ h => absurd h List.not_mem_nil)⟩) (Nat.le_of_ble_eq_true rfl) ?_
  intro x rs C
  show eZ x E (eQ x E (fun v Γ => v = none ∧ ∃ r1 r2, Γ = [eO a 7 [.ref a, va_rf r1, va_rf r2, .ref (E.2.2.2 13), .null, .int 0]]) rs) [eO a 7 [.null, .null, .null, .null, .null, .int 0], rs] 0 [some (.ref a)] [] 0 0
  refine z_aload_n C dX7_init_0 rfl rfl ?_
  refine z_ldcS C dX7_init_1 rfl C.2.2.2.2.2.2.2.1.2.2.2.2.2.2.2.2.2.1 ?_
  refine z_callI (As := [.ref (E.2.2.2 13)]) (rest := []) (Δ := [rs]) [0] [1] 1 (m_Exc_init_X7 hl E a (E.2.2.2 13)) C dX7_init_3 rfl rfl rfl q1097 q1017 q72 q1018 rfl (by decide +kernel) rfl rfl rfl rfl ⟨Nat.le_of_ble_eq_true rfl, Nat.le_of_ble_eq_true rfl⟩ (Nat.le_trans eS0 (Nat.le_of_ble_eq_true rfl)) ⟨Nat.le_of_ble_eq_true rfl, Nat.le_of_ble_eq_true rfl⟩ (fun v_ Γ_ hp_ => ?_)
  obtain ⟨rfl, r1, r2, rfl⟩ := hp_
  show eZ x E _ [eO a 7 [.ref a, va_rf r1, va_rf r2, .ref (E.2.2.2 13), .null, .int 0], rs] 6 [some (.ref a)] [] 0 0
  exact z_vret (Γ := [eO a 7 [.ref a, va_rf r1, va_rf r2, .ref (E.2.2.2 13), .null, .int 0]]) C dX7_init_6 rfl (Nat.le_of_ble_eq_true rfl) (Nat.le_of_ble_eq_true rfl) ⟨rfl, r1, r2, rfl⟩

set_option maxHeartbeats 4000000 in
theorem m_Ungraded_init2 {l : Launch} (hl : l.stackTraces = false) (E : eEn) (a b : Nat) : eMet l E yX7_init_2 (ws_ yX7_init_2 cX7_init_2 2 none) ({ frames := 5, cells := 0, slots := 0, locals := 84 }) [.ref a, .ref b] [eO a 7 [.null, .null, .null, .null, .null, .int 0]] (fun v Γ => v = none ∧ ∃ r1 r2, Γ = [eO a 7 [.ref b, va_rf r1, va_rf r2, .ref (E.2.2.2 14), .null, .int 0]]) := by
  refine eStart (cc := cX7_init_2) (nL := 2) (L := [some (.ref a), some (.ref b)]) hl (by decide) rfl (List.forall_mem_cons.mpr ⟨rfl, (List.forall_mem_cons.mpr ⟨rfl, (fun _ h => absurd h List.not_mem_nil)⟩)⟩) (Nat.le_of_ble_eq_true rfl) ?_
  intro x rs C
  show eZ x E (eQ x E (fun v Γ => v = none ∧ ∃ r1 r2, Γ = [eO a 7 [.ref b, va_rf r1, va_rf r2, .ref (E.2.2.2 14), .null, .int 0]]) rs) [eO a 7 [.null, .null, .null, .null, .null, .int 0], rs] 0 [some (.ref a), some (.ref b)] [] 0 0
  refine z_aload_n C dX7_init_2_0 rfl rfl ?_
  refine z_ldcS C dX7_init_2_1 rfl C.2.2.2.2.2.2.2.1.2.2.2.2.2.2.2.2.2.2.1 ?_
  refine z_aload_n C dX7_init_2_3 rfl rfl ?_
  refine z_callI (As := [.ref (E.2.2.2 14), .ref b]) (rest := []) (Δ := [rs]) [0] [1] 2 (m_Exc_init2 hl E a (E.2.2.2 14) b) C dX7_init_2_4 rfl rfl rfl q1176 q1177 q72 q1178 rfl (by decide +kernel) rfl rfl rfl rfl ⟨Nat.le_of_ble_eq_true rfl, Nat.le_of_ble_eq_true rfl⟩ (Nat.le_trans eS0 (Nat.le_of_ble_eq_true rfl)) ⟨Nat.le_of_ble_eq_true rfl, Nat.le_of_ble_eq_true rfl⟩ (fun v_ Γ_ hp_ => ?_)
  obtain ⟨rfl, r1, r2, rfl⟩ := hp_
  show eZ x E _ [eO a 7 [.ref b, va_rf r1, va_rf r2, .ref (E.2.2.2 14), .null, .int 0], rs] 7 [some (.ref a), some (.ref b)] [] 0 0
  exact z_vret (Γ := [eO a 7 [.ref b, va_rf r1, va_rf r2, .ref (E.2.2.2 14), .null, .int 0]]) C dX7_init_2_7 rfl (Nat.le_of_ble_eq_true rfl) (Nat.le_of_ble_eq_true rfl) ⟨rfl, r1, r2, rfl⟩
