/-! ===== the system's orders ===== -/
set_option maxRecDepth 100000
abbrev sPost (E : eEn) (s : Sy) (r : Int32 × As) : Option Value → List va_W → Prop := fun w Γ => ∃ s2 : Sy, w = some (.int r.1) ∧ Γ = [eSys E s2] ∧ s2.abs = r.2 ∧ sOk s2 ∧ s2.a = s.a
theorem gDone_x (A : Am) (f : Nat → Int32) : gDone 120 A f = gPuts A (f 0) (f 1, f 2, f 4, f 5, f 3, 0) := by unfold gDone; rw [if_neg (by decide), if_pos rfl]
theorem gDone_e (A : Am) (f : Nat → Int32) : gDone 101 A f = gPuts A (f 0) (f 1, f 2, 1, -1, 0, 0) := by unfold gDone; rw [if_pos rfl]
theorem gDone_s (A : Am) (f : Nat → Int32) : gDone 115 A f = gSpots A (f 0) (f 1) := by unfold gDone; rw [if_neg (by decide), if_neg (by decide), if_pos rfl]
theorem gDone_l (A : Am) (f : Nat → Int32) : gDone 108 A f = gLights A (f 0) (f 1) := by unfold gDone; rw [if_neg (by decide), if_neg (by decide), if_neg (by decide), if_pos rfl]
theorem gDone_t (A : Am) (f : Nat → Int32) : gDone 116 A f = gTurns A (f 0) (f 1) := by unfold gDone; rw [if_neg (by decide), if_neg (by decide), if_neg (by decide), if_neg (by decide), if_pos rfl]
theorem gDone_c (A : Am) (f : Nat → Int32) : gDone 99 A f = gCleans A (f 0) := by unfold gDone; rw [if_neg (by decide), if_neg (by decide), if_neg (by decide), if_neg (by decide), if_neg (by decide), if_pos rfl]
theorem gDone_r (A : Am) (f : Nat → Int32) : gDone 114 A f = gRuns A (f 0) := by unfold gDone; rw [if_neg (by decide), if_neg (by decide), if_neg (by decide), if_neg (by decide), if_neg (by decide), if_neg (by decide), if_pos rfl]
theorem gDone_z (A : Am) (f : Nat → Int32) : gDone 122 A f = gSets A (f 0) (f 1) := by unfold gDone; rw [if_neg (by decide), if_neg (by decide), if_neg (by decide), if_neg (by decide), if_neg (by decide), if_neg (by decide), if_neg (by decide)]

theorem upd_self_ (f : Nat → Int32) (k : Nat) (v : Int32) : upd f k v k = v := by simp [upd]

set_option maxHeartbeats 4000000 in
theorem m_egg {l : Launch} (hl : l.stackTraces = false) (E : eEn) (s : Sy) (hs : sOk s) (p1 p2 p3 p4 p5 p6 : Int32) : eMet l E yX0_egg (ws_ yX0_egg cX0_egg 7 (some .int)) ({ frames := 10, cells := 107, slots := 498, locals := 193 }) [.ref s.a, .int p1, .int p2, .int p3, .int p4, .int p5, .int p6] [eSys E s] (sPost E s (gAct s.abs (gPuts s.m.abs p1 (p2, p3, p5, p6, p4, 0)))) := by
  refine eStart (cc := cX0_egg) (nL := 7) (L := [some (.ref s.a), some (.int p1), some (.int p2), some (.int p3), some (.int p4), some (.int p5), some (.int p6)]) hl (by decide) rfl (List.forall_mem_cons.mpr ⟨rfl, (List.forall_mem_cons.mpr ⟨rfl, (List.forall_mem_cons.mpr ⟨rfl, (List.forall_mem_cons.mpr ⟨rfl, (List.forall_mem_cons.mpr ⟨rfl, (List.forall_mem_cons.mpr ⟨rfl, (List.forall_mem_cons.mpr ⟨rfl, (fun _ h => absurd h List.not_mem_nil)⟩)⟩)⟩)⟩)⟩)⟩)⟩) (Nat.le_of_ble_eq_true rfl) ?_
  intro x rs C
  show eZ x E (eQ x E (sPost E s (gAct s.abs (gPuts s.m.abs p1 (p2, p3, p5, p6, p4, 0)))) rs) [eSys E s, rs] 0 [some (.ref s.a), some (.int p1), some (.int p2), some (.int p3), some (.int p4), some (.int p5), some (.int p6)] [] 0 0
  generalize hQ_ : eQ x E (sPost E s (gAct s.abs (gPuts s.m.abs p1 (p2, p3, p5, p6, p4, 0)))) rs = Q_
  refine z_aload_n C dX0_egg_0 rfl rfl ?_
  refine z_bipush (v := 120) C dX0_egg_1 (by decide) ?_
  refine z_bipush (v := 6) C dX0_egg_3 (by decide) ?_
  refine z_newI (m := 6) C dX0_egg_5 rfl (by decide) (Nat.le_of_ble_eq_true rfl) (Nat.le_of_ble_eq_true rfl) (fun a1 => ?_)
  show eZ x E _ [eSys E s, rs, eIA E a1 6 (fun _ => 0)] 7 [some (.ref s.a), some (.int p1), some (.int p2), some (.int p3), some (.int p4), some (.int p5), some (.int p6)] [.ref a1, .int 120, .ref s.a] 1 6
  refine z_dup C dX0_egg_7 rfl ?_
  refine z_iconst (v := 0) C dX0_egg_8 (by decide) ?_
  refine z_iload_n C dX0_egg_9 rfl rfl ?_
  refine z_iast (m := 0) (Γ2 := [eSys E s, rs, eIA E a1 6 (upd (fun _ => 0) 0 p1)]) 2 C dX0_egg_10 rfl rfl (by decide) (by decide) rfl ?_
  refine z_dup C dX0_egg_11 rfl ?_
  refine z_iconst (v := 1) C dX0_egg_12 (by decide) ?_
  refine z_iload_n C dX0_egg_13 rfl rfl ?_
  refine z_iast (m := 1) (Γ2 := [eSys E s, rs, eIA E a1 6 (upd (upd (fun _ => 0) 0 p1) 1 p2)]) 2 C dX0_egg_14 rfl rfl (by decide) (by decide) rfl ?_
  refine z_dup C dX0_egg_15 rfl ?_
  refine z_iconst (v := 2) C dX0_egg_16 (by decide) ?_
  refine z_iload_n C dX0_egg_17 rfl rfl ?_
  refine z_iast (m := 2) (Γ2 := [eSys E s, rs, eIA E a1 6 (upd (upd (upd (fun _ => 0) 0 p1) 1 p2) 2 p3)]) 2 C dX0_egg_18 rfl rfl (by decide) (by decide) rfl ?_
  refine z_dup C dX0_egg_19 rfl ?_
  refine z_iconst (v := 3) C dX0_egg_20 (by decide) ?_
  refine z_iload C dX0_egg_21 rfl ?_
  refine z_iast (m := 3) (Γ2 := [eSys E s, rs, eIA E a1 6 (upd (upd (upd (upd (fun _ => 0) 0 p1) 1 p2) 2 p3) 3 p4)]) 2 C dX0_egg_23 rfl rfl (by decide) (by decide) rfl ?_
  refine z_dup C dX0_egg_24 rfl ?_
  refine z_iconst (v := 4) C dX0_egg_25 (by decide) ?_
  refine z_iload C dX0_egg_26 rfl ?_
  refine z_iast (m := 4) (Γ2 := [eSys E s, rs, eIA E a1 6 (upd (upd (upd (upd (upd (fun _ => 0) 0 p1) 1 p2) 2 p3) 3 p4) 4 p5)]) 2 C dX0_egg_28 rfl rfl (by decide) (by decide) rfl ?_
  refine z_dup C dX0_egg_29 rfl ?_
  refine z_iconst (v := 5) C dX0_egg_30 (by decide) ?_
  refine z_iload C dX0_egg_31 rfl ?_
  refine z_iast (m := 5) (Γ2 := [eSys E s, rs, eIA E a1 6 (upd (upd (upd (upd (upd (upd (fun _ => 0) 0 p1) 1 p2) 2 p3) 3 p4) 4 p5) 5 p6)]) 2 C dX0_egg_33 rfl rfl (by decide) (by decide) rfl ?_
  have hd : gDone 120 s.m.abs (upd (upd (upd (upd (upd (upd (fun _ => 0) 0 p1) 1 p2) 2 p3) 3 p4) 4 p5) 5 p6) = gPuts s.m.abs p1 (p2, p3, p5, p6, p4, 0) := gDone_x _ _
  refine z_callWX (r := (RX0, TX0, 3)) (As := [.int 120, .ref a1]) (rest := []) (Δ := [rs]) [0, 2] [1] 2 (m_act_x hl E s hs a1 6 (upd (upd (upd (upd (upd (upd (fun _ => 0) 0 p1) 1 p2) 2 p3) 3 p4) 4 p5) 5 p6) (by decide) (by decide)) C dX0_egg_34 rfl rfl (eIn (i := 0) rfl eSys_mem) rfl rfl q414 q416 qs3 q49 q417 (by decide +kernel) rfl (ePm 3 rfl (by decide +kernel)) rfl rfl ⟨Nat.le_of_ble_eq_true rfl, Nat.le_of_ble_eq_true rfl⟩ (Nat.le_trans eS0 (Nat.le_of_ble_eq_true rfl)) ⟨Nat.le_of_ble_eq_true rfl, Nat.le_of_ble_eq_true rfl⟩ (fun _ _ _ h => h.elim) (fun v_ Γ_ hp_ => ?_)
  obtain ⟨s2, rfl, rfl, hab, hok, hsa⟩ := hp_
  rw [hd] at hab
  show eZ x E _ [eSys E s2, rs] 37 [some (.ref s.a), some (.int p1), some (.int p2), some (.int p3), some (.int p4), some (.int p5), some (.int p6)] [.int ((gAct s.abs (gDone 120 s.m.abs (upd (upd (upd (upd (upd (upd (fun _ => 0) 0 p1) 1 p2) 2 p3) 3 p4) 4 p5) 5 p6))).1)] 107 498
  subst hQ_
  exact z_ret (Γ := [eSys E s2]) C dX0_egg_37 rfl rfl (Nat.le_of_ble_eq_true rfl) (Nat.le_of_ble_eq_true rfl) ⟨s2, by rw [hd], rfl, hab, hok, hsa⟩

set_option maxHeartbeats 4000000 in
theorem m_stain {l : Launch} (hl : l.stackTraces = false) (E : eEn) (s : Sy) (hs : sOk s) (p1 p2 : Int32) : eMet l E yX0_stain (ws_ yX0_stain cX0_stain 3 (some .int)) ({ frames := 10, cells := 107, slots := 494, locals := 193 }) [.ref s.a, .int p1, .int p2] [eSys E s] (sPost E s (gAct s.abs (gSpots s.m.abs p1 p2))) := by
  refine eStart (cc := cX0_stain) (nL := 3) (L := [some (.ref s.a), some (.int p1), some (.int p2)]) hl (by decide) rfl (List.forall_mem_cons.mpr ⟨rfl, (List.forall_mem_cons.mpr ⟨rfl, (List.forall_mem_cons.mpr ⟨rfl, (fun _ h => absurd h List.not_mem_nil)⟩)⟩)⟩) (Nat.le_of_ble_eq_true rfl) ?_
  intro x rs C
  show eZ x E (eQ x E (sPost E s (gAct s.abs (gSpots s.m.abs p1 p2))) rs) [eSys E s, rs] 0 [some (.ref s.a), some (.int p1), some (.int p2)] [] 0 0
  generalize hQ_ : eQ x E (sPost E s (gAct s.abs (gSpots s.m.abs p1 p2))) rs = Q_
  refine z_aload_n C dX0_stain_0 rfl rfl ?_
  refine z_bipush (v := 115) C dX0_stain_1 (by decide) ?_
  refine z_iconst (v := 2) C dX0_stain_3 (by decide) ?_
  refine z_newI (m := 2) C dX0_stain_4 rfl (by decide) (Nat.le_of_ble_eq_true rfl) (Nat.le_of_ble_eq_true rfl) (fun a1 => ?_)
  show eZ x E _ [eSys E s, rs, eIA E a1 2 (fun _ => 0)] 6 [some (.ref s.a), some (.int p1), some (.int p2)] [.ref a1, .int 115, .ref s.a] 1 2
  refine z_dup C dX0_stain_6 rfl ?_
  refine z_iconst (v := 0) C dX0_stain_7 (by decide) ?_
  refine z_iload_n C dX0_stain_8 rfl rfl ?_
  refine z_iast (m := 0) (Γ2 := [eSys E s, rs, eIA E a1 2 (upd (fun _ => 0) 0 p1)]) 2 C dX0_stain_9 rfl rfl (by decide) (by decide) rfl ?_
  refine z_dup C dX0_stain_10 rfl ?_
  refine z_iconst (v := 1) C dX0_stain_11 (by decide) ?_
  refine z_iload_n C dX0_stain_12 rfl rfl ?_
  refine z_iast (m := 1) (Γ2 := [eSys E s, rs, eIA E a1 2 (upd (upd (fun _ => 0) 0 p1) 1 p2)]) 2 C dX0_stain_13 rfl rfl (by decide) (by decide) rfl ?_
  have hd : gDone 115 s.m.abs (upd (upd (fun _ => 0) 0 p1) 1 p2) = gSpots s.m.abs p1 p2 := gDone_s _ _
  refine z_callWX (r := (RX0, TX0, 3)) (As := [.int 115, .ref a1]) (rest := []) (Δ := [rs]) [0, 2] [1] 2 (m_act_s hl E s hs a1 2 (upd (upd (fun _ => 0) 0 p1) 1 p2) (by decide) (by decide)) C dX0_stain_14 rfl rfl (eIn (i := 0) rfl eSys_mem) rfl rfl q414 q416 qs3 q49 q417 (by decide +kernel) rfl (ePm 3 rfl (by decide +kernel)) rfl rfl ⟨Nat.le_of_ble_eq_true rfl, Nat.le_of_ble_eq_true rfl⟩ (Nat.le_trans eS0 (Nat.le_of_ble_eq_true rfl)) ⟨Nat.le_of_ble_eq_true rfl, Nat.le_of_ble_eq_true rfl⟩ (fun _ _ _ h => h.elim) (fun v_ Γ_ hp_ => ?_)
  obtain ⟨s2, rfl, rfl, hab, hok, hsa⟩ := hp_
  rw [hd] at hab
  show eZ x E _ [eSys E s2, rs] 17 [some (.ref s.a), some (.int p1), some (.int p2)] [.int ((gAct s.abs (gDone 115 s.m.abs (upd (upd (fun _ => 0) 0 p1) 1 p2))).1)] 107 494
  subst hQ_
  exact z_ret (Γ := [eSys E s2]) C dX0_stain_17 rfl rfl (Nat.le_of_ble_eq_true rfl) (Nat.le_of_ble_eq_true rfl) ⟨s2, by rw [hd], rfl, hab, hok, hsa⟩

set_option maxHeartbeats 4000000 in
theorem m_light {l : Launch} (hl : l.stackTraces = false) (E : eEn) (s : Sy) (hs : sOk s) (p1 p2 : Int32) : eMet l E yX0_light (ws_ yX0_light cX0_light 3 (some .int)) ({ frames := 10, cells := 107, slots := 494, locals := 193 }) [.ref s.a, .int p1, .int p2] [eSys E s] (sPost E s (gAct s.abs (gLights s.m.abs p1 p2))) := by
  refine eStart (cc := cX0_light) (nL := 3) (L := [some (.ref s.a), some (.int p1), some (.int p2)]) hl (by decide) rfl (List.forall_mem_cons.mpr ⟨rfl, (List.forall_mem_cons.mpr ⟨rfl, (List.forall_mem_cons.mpr ⟨rfl, (fun _ h => absurd h List.not_mem_nil)⟩)⟩)⟩) (Nat.le_of_ble_eq_true rfl) ?_
  intro x rs C
  show eZ x E (eQ x E (sPost E s (gAct s.abs (gLights s.m.abs p1 p2))) rs) [eSys E s, rs] 0 [some (.ref s.a), some (.int p1), some (.int p2)] [] 0 0
  generalize hQ_ : eQ x E (sPost E s (gAct s.abs (gLights s.m.abs p1 p2))) rs = Q_
  refine z_aload_n C dX0_light_0 rfl rfl ?_
  refine z_bipush (v := 108) C dX0_light_1 (by decide) ?_
  refine z_iconst (v := 2) C dX0_light_3 (by decide) ?_
  refine z_newI (m := 2) C dX0_light_4 rfl (by decide) (Nat.le_of_ble_eq_true rfl) (Nat.le_of_ble_eq_true rfl) (fun a1 => ?_)
  show eZ x E _ [eSys E s, rs, eIA E a1 2 (fun _ => 0)] 6 [some (.ref s.a), some (.int p1), some (.int p2)] [.ref a1, .int 108, .ref s.a] 1 2
  refine z_dup C dX0_light_6 rfl ?_
  refine z_iconst (v := 0) C dX0_light_7 (by decide) ?_
  refine z_iload_n C dX0_light_8 rfl rfl ?_
  refine z_iast (m := 0) (Γ2 := [eSys E s, rs, eIA E a1 2 (upd (fun _ => 0) 0 p1)]) 2 C dX0_light_9 rfl rfl (by decide) (by decide) rfl ?_
  refine z_dup C dX0_light_10 rfl ?_
  refine z_iconst (v := 1) C dX0_light_11 (by decide) ?_
  refine z_iload_n C dX0_light_12 rfl rfl ?_
  refine z_iast (m := 1) (Γ2 := [eSys E s, rs, eIA E a1 2 (upd (upd (fun _ => 0) 0 p1) 1 p2)]) 2 C dX0_light_13 rfl rfl (by decide) (by decide) rfl ?_
  have hd : gDone 108 s.m.abs (upd (upd (fun _ => 0) 0 p1) 1 p2) = gLights s.m.abs p1 p2 := gDone_l _ _
  refine z_callWX (r := (RX0, TX0, 3)) (As := [.int 108, .ref a1]) (rest := []) (Δ := [rs]) [0, 2] [1] 2 (m_act_l hl E s hs a1 2 (upd (upd (fun _ => 0) 0 p1) 1 p2) (by decide) (by decide)) C dX0_light_14 rfl rfl (eIn (i := 0) rfl eSys_mem) rfl rfl q414 q416 qs3 q49 q417 (by decide +kernel) rfl (ePm 3 rfl (by decide +kernel)) rfl rfl ⟨Nat.le_of_ble_eq_true rfl, Nat.le_of_ble_eq_true rfl⟩ (Nat.le_trans eS0 (Nat.le_of_ble_eq_true rfl)) ⟨Nat.le_of_ble_eq_true rfl, Nat.le_of_ble_eq_true rfl⟩ (fun _ _ _ h => h.elim) (fun v_ Γ_ hp_ => ?_)
  obtain ⟨s2, rfl, rfl, hab, hok, hsa⟩ := hp_
  rw [hd] at hab
  show eZ x E _ [eSys E s2, rs] 17 [some (.ref s.a), some (.int p1), some (.int p2)] [.int ((gAct s.abs (gDone 108 s.m.abs (upd (upd (fun _ => 0) 0 p1) 1 p2))).1)] 107 494
  subst hQ_
  exact z_ret (Γ := [eSys E s2]) C dX0_light_17 rfl rfl (Nat.le_of_ble_eq_true rfl) (Nat.le_of_ble_eq_true rfl) ⟨s2, by rw [hd], rfl, hab, hok, hsa⟩

set_option maxHeartbeats 4000000 in
theorem m_turn {l : Launch} (hl : l.stackTraces = false) (E : eEn) (s : Sy) (hs : sOk s) (p1 p2 : Int32) : eMet l E yX0_turn (ws_ yX0_turn cX0_turn 3 (some .int)) ({ frames := 10, cells := 107, slots := 494, locals := 193 }) [.ref s.a, .int p1, .int p2] [eSys E s] (sPost E s (gAct s.abs (gTurns s.m.abs p1 p2))) := by
  refine eStart (cc := cX0_turn) (nL := 3) (L := [some (.ref s.a), some (.int p1), some (.int p2)]) hl (by decide) rfl (List.forall_mem_cons.mpr ⟨rfl, (List.forall_mem_cons.mpr ⟨rfl, (List.forall_mem_cons.mpr ⟨rfl, (fun _ h => absurd h List.not_mem_nil)⟩)⟩)⟩) (Nat.le_of_ble_eq_true rfl) ?_
  intro x rs C
  show eZ x E (eQ x E (sPost E s (gAct s.abs (gTurns s.m.abs p1 p2))) rs) [eSys E s, rs] 0 [some (.ref s.a), some (.int p1), some (.int p2)] [] 0 0
  generalize hQ_ : eQ x E (sPost E s (gAct s.abs (gTurns s.m.abs p1 p2))) rs = Q_
  refine z_aload_n C dX0_turn_0 rfl rfl ?_
  refine z_bipush (v := 116) C dX0_turn_1 (by decide) ?_
  refine z_iconst (v := 2) C dX0_turn_3 (by decide) ?_
  refine z_newI (m := 2) C dX0_turn_4 rfl (by decide) (Nat.le_of_ble_eq_true rfl) (Nat.le_of_ble_eq_true rfl) (fun a1 => ?_)
  show eZ x E _ [eSys E s, rs, eIA E a1 2 (fun _ => 0)] 6 [some (.ref s.a), some (.int p1), some (.int p2)] [.ref a1, .int 116, .ref s.a] 1 2
  refine z_dup C dX0_turn_6 rfl ?_
  refine z_iconst (v := 0) C dX0_turn_7 (by decide) ?_
  refine z_iload_n C dX0_turn_8 rfl rfl ?_
  refine z_iast (m := 0) (Γ2 := [eSys E s, rs, eIA E a1 2 (upd (fun _ => 0) 0 p1)]) 2 C dX0_turn_9 rfl rfl (by decide) (by decide) rfl ?_
  refine z_dup C dX0_turn_10 rfl ?_
  refine z_iconst (v := 1) C dX0_turn_11 (by decide) ?_
  refine z_iload_n C dX0_turn_12 rfl rfl ?_
  refine z_iast (m := 1) (Γ2 := [eSys E s, rs, eIA E a1 2 (upd (upd (fun _ => 0) 0 p1) 1 p2)]) 2 C dX0_turn_13 rfl rfl (by decide) (by decide) rfl ?_
  have hd : gDone 116 s.m.abs (upd (upd (fun _ => 0) 0 p1) 1 p2) = gTurns s.m.abs p1 p2 := gDone_t _ _
  refine z_callWX (r := (RX0, TX0, 3)) (As := [.int 116, .ref a1]) (rest := []) (Δ := [rs]) [0, 2] [1] 2 (m_act_t hl E s hs a1 2 (upd (upd (fun _ => 0) 0 p1) 1 p2) (by decide) (by decide)) C dX0_turn_14 rfl rfl (eIn (i := 0) rfl eSys_mem) rfl rfl q414 q416 qs3 q49 q417 (by decide +kernel) rfl (ePm 3 rfl (by decide +kernel)) rfl rfl ⟨Nat.le_of_ble_eq_true rfl, Nat.le_of_ble_eq_true rfl⟩ (Nat.le_trans eS0 (Nat.le_of_ble_eq_true rfl)) ⟨Nat.le_of_ble_eq_true rfl, Nat.le_of_ble_eq_true rfl⟩ (fun _ _ _ h => h.elim) (fun v_ Γ_ hp_ => ?_)
  obtain ⟨s2, rfl, rfl, hab, hok, hsa⟩ := hp_
  rw [hd] at hab
  show eZ x E _ [eSys E s2, rs] 17 [some (.ref s.a), some (.int p1), some (.int p2)] [.int ((gAct s.abs (gDone 116 s.m.abs (upd (upd (fun _ => 0) 0 p1) 1 p2))).1)] 107 494
  subst hQ_
  exact z_ret (Γ := [eSys E s2]) C dX0_turn_17 rfl rfl (Nat.le_of_ble_eq_true rfl) (Nat.le_of_ble_eq_true rfl) ⟨s2, by rw [hd], rfl, hab, hok, hsa⟩

set_option maxHeartbeats 4000000 in
theorem m_clean {l : Launch} (hl : l.stackTraces = false) (E : eEn) (s : Sy) (hs : sOk s) (p1 : Int32) : eMet l E yX0_clean (ws_ yX0_clean cX0_clean 2 (some .int)) ({ frames := 10, cells := 107, slots := 493, locals := 192 }) [.ref s.a, .int p1] [eSys E s] (sPost E s (gAct s.abs (gCleans s.m.abs p1))) := by
  refine eStart (cc := cX0_clean) (nL := 2) (L := [some (.ref s.a), some (.int p1)]) hl (by decide) rfl (List.forall_mem_cons.mpr ⟨rfl, (List.forall_mem_cons.mpr ⟨rfl, (fun _ h => absurd h List.not_mem_nil)⟩)⟩) (Nat.le_of_ble_eq_true rfl) ?_
  intro x rs C
  show eZ x E (eQ x E (sPost E s (gAct s.abs (gCleans s.m.abs p1))) rs) [eSys E s, rs] 0 [some (.ref s.a), some (.int p1)] [] 0 0
  generalize hQ_ : eQ x E (sPost E s (gAct s.abs (gCleans s.m.abs p1))) rs = Q_
  refine z_aload_n C dX0_clean_0 rfl rfl ?_
  refine z_bipush (v := 99) C dX0_clean_1 (by decide) ?_
  refine z_iconst (v := 1) C dX0_clean_3 (by decide) ?_
  refine z_newI (m := 1) C dX0_clean_4 rfl (by decide) (Nat.le_of_ble_eq_true rfl) (Nat.le_of_ble_eq_true rfl) (fun a1 => ?_)
  show eZ x E _ [eSys E s, rs, eIA E a1 1 (fun _ => 0)] 6 [some (.ref s.a), some (.int p1)] [.ref a1, .int 99, .ref s.a] 1 1
  refine z_dup C dX0_clean_6 rfl ?_
  refine z_iconst (v := 0) C dX0_clean_7 (by decide) ?_
  refine z_iload_n C dX0_clean_8 rfl rfl ?_
  refine z_iast (m := 0) (Γ2 := [eSys E s, rs, eIA E a1 1 (upd (fun _ => 0) 0 p1)]) 2 C dX0_clean_9 rfl rfl (by decide) (by decide) rfl ?_
  have hd : gDone 99 s.m.abs (upd (fun _ => 0) 0 p1) = gCleans s.m.abs p1 := gDone_c _ _
  refine z_callWX (r := (RX0, TX0, 3)) (As := [.int 99, .ref a1]) (rest := []) (Δ := [rs]) [0, 2] [1] 2 (m_act_c hl E s hs a1 1 (upd (fun _ => 0) 0 p1) (by decide) (by decide)) C dX0_clean_10 rfl rfl (eIn (i := 0) rfl eSys_mem) rfl rfl q414 q416 qs3 q49 q417 (by decide +kernel) rfl (ePm 3 rfl (by decide +kernel)) rfl rfl ⟨Nat.le_of_ble_eq_true rfl, Nat.le_of_ble_eq_true rfl⟩ (Nat.le_trans eS0 (Nat.le_of_ble_eq_true rfl)) ⟨Nat.le_of_ble_eq_true rfl, Nat.le_of_ble_eq_true rfl⟩ (fun _ _ _ h => h.elim) (fun v_ Γ_ hp_ => ?_)
  obtain ⟨s2, rfl, rfl, hab, hok, hsa⟩ := hp_
  rw [hd] at hab
  show eZ x E _ [eSys E s2, rs] 13 [some (.ref s.a), some (.int p1)] [.int ((gAct s.abs (gDone 99 s.m.abs (upd (fun _ => 0) 0 p1))).1)] 107 493
  subst hQ_
  exact z_ret (Γ := [eSys E s2]) C dX0_clean_13 rfl rfl (Nat.le_of_ble_eq_true rfl) (Nat.le_of_ble_eq_true rfl) ⟨s2, by rw [hd], rfl, hab, hok, hsa⟩

set_option maxHeartbeats 4000000 in
theorem m_run {l : Launch} (hl : l.stackTraces = false) (E : eEn) (s : Sy) (hs : sOk s) (p1 : Int32) : eMet l E yX0_run (ws_ yX0_run cX0_run 2 (some .int)) ({ frames := 14, cells := 105 + 17 * gM p1, slots := 484 + 88 * gM p1, locals := 286 }) [.ref s.a, .int p1] [eSys E s] (sPost E s (gAct s.abs (gRuns s.m.abs p1))) := by
  refine eStart (cc := cX0_run) (nL := 2) (L := [some (.ref s.a), some (.int p1)]) hl (by decide) rfl (List.forall_mem_cons.mpr ⟨rfl, (List.forall_mem_cons.mpr ⟨rfl, (fun _ h => absurd h List.not_mem_nil)⟩)⟩) (Nat.le_of_ble_eq_true rfl) ?_
  intro x rs C
  show eZ x E (eQ x E (sPost E s (gAct s.abs (gRuns s.m.abs p1))) rs) [eSys E s, rs] 0 [some (.ref s.a), some (.int p1)] [] 0 0
  generalize hQ_ : eQ x E (sPost E s (gAct s.abs (gRuns s.m.abs p1))) rs = Q_
  refine z_aload_n C dX0_run_0 rfl rfl ?_
  refine z_bipush (v := 114) C dX0_run_1 (by decide) ?_
  refine z_iconst (v := 1) C dX0_run_3 (by decide) ?_
  refine z_newI (m := 1) C dX0_run_4 rfl (by decide) (by (try dsimp only); omega) (by (try dsimp only); omega) (fun a1 => ?_)
  show eZ x E _ [eSys E s, rs, eIA E a1 1 (fun _ => 0)] 6 [some (.ref s.a), some (.int p1)] [.ref a1, .int 114, .ref s.a] 1 1
  refine z_dup C dX0_run_6 rfl ?_
  refine z_iconst (v := 0) C dX0_run_7 (by decide) ?_
  refine z_iload_n C dX0_run_8 rfl rfl ?_
  refine z_iast (m := 0) (Γ2 := [eSys E s, rs, eIA E a1 1 (upd (fun _ => 0) 0 p1)]) 2 C dX0_run_9 rfl rfl (by decide) (by decide) rfl ?_
  have hd : gDone 114 s.m.abs (upd (fun _ => 0) 0 p1) = gRuns s.m.abs p1 := gDone_r _ _
  refine z_callWX (r := (RX0, TX0, 3)) (As := [.int 114, .ref a1]) (rest := []) (Δ := [rs]) [0, 2] [1] 2 (m_act_r hl E s hs a1 1 (upd (fun _ => 0) 0 p1) (by decide) (by decide)) C dX0_run_10 rfl rfl (eIn (i := 0) rfl eSys_mem) rfl rfl q414 q416 qs3 q49 q417 (by decide +kernel) rfl (ePm 3 rfl (by decide +kernel)) rfl rfl ⟨Nat.le_of_ble_eq_true rfl, Nat.le_of_ble_eq_true rfl⟩ (Nat.le_trans eS0 (Nat.le_of_ble_eq_true rfl)) ⟨by show _ ≤ 105 + 17 * gM p1; (try dsimp only); simp only [upd_self_]; omega, by show _ ≤ 484 + 88 * gM p1; (try dsimp only); simp only [upd_self_]; omega⟩ (fun _ _ _ h => h.elim) (fun v_ Γ_ hp_ => ?_)
  obtain ⟨s2, rfl, rfl, hab, hok, hsa⟩ := hp_
  rw [hd] at hab
  show eZ x E _ [eSys E s2, rs] 13 [some (.ref s.a), some (.int p1)] [.int ((gAct s.abs (gDone 114 s.m.abs (upd (fun _ => 0) 0 p1))).1)] (1 + (102 + (2 + 17 * gM ((upd (fun _ => 0) 0 p1) 0)))) (1 + (469 + (14 + 88 * gM ((upd (fun _ => 0) 0 p1) 0))))
  subst hQ_
  exact z_ret (Γ := [eSys E s2]) C dX0_run_13 rfl rfl (by show _ ≤ 105 + 17 * gM p1; (try dsimp only); simp only [upd_self_]; omega) (by show _ ≤ 484 + 88 * gM p1; (try dsimp only); simp only [upd_self_]; omega) ⟨s2, by rw [hd], rfl, hab, hok, hsa⟩

set_option maxHeartbeats 4000000 in
theorem m_set {l : Launch} (hl : l.stackTraces = false) (E : eEn) (s : Sy) (hs : sOk s) (p1 p2 : Int32) : eMet l E yX0_set (ws_ yX0_set cX0_set 3 (some .int)) ({ frames := 10, cells := 107, slots := 494, locals := 193 }) [.ref s.a, .int p1, .int p2] [eSys E s] (sPost E s (gAct s.abs (gSets s.m.abs p1 p2))) := by
  refine eStart (cc := cX0_set) (nL := 3) (L := [some (.ref s.a), some (.int p1), some (.int p2)]) hl (by decide) rfl (List.forall_mem_cons.mpr ⟨rfl, (List.forall_mem_cons.mpr ⟨rfl, (List.forall_mem_cons.mpr ⟨rfl, (fun _ h => absurd h List.not_mem_nil)⟩)⟩)⟩) (Nat.le_of_ble_eq_true rfl) ?_
  intro x rs C
  show eZ x E (eQ x E (sPost E s (gAct s.abs (gSets s.m.abs p1 p2))) rs) [eSys E s, rs] 0 [some (.ref s.a), some (.int p1), some (.int p2)] [] 0 0
  generalize hQ_ : eQ x E (sPost E s (gAct s.abs (gSets s.m.abs p1 p2))) rs = Q_
  refine z_aload_n C dX0_set_0 rfl rfl ?_
  refine z_bipush (v := 122) C dX0_set_1 (by decide) ?_
  refine z_iconst (v := 2) C dX0_set_3 (by decide) ?_
  refine z_newI (m := 2) C dX0_set_4 rfl (by decide) (Nat.le_of_ble_eq_true rfl) (Nat.le_of_ble_eq_true rfl) (fun a1 => ?_)
  show eZ x E _ [eSys E s, rs, eIA E a1 2 (fun _ => 0)] 6 [some (.ref s.a), some (.int p1), some (.int p2)] [.ref a1, .int 122, .ref s.a] 1 2
  refine z_dup C dX0_set_6 rfl ?_
  refine z_iconst (v := 0) C dX0_set_7 (by decide) ?_
  refine z_iload_n C dX0_set_8 rfl rfl ?_
  refine z_iast (m := 0) (Γ2 := [eSys E s, rs, eIA E a1 2 (upd (fun _ => 0) 0 p1)]) 2 C dX0_set_9 rfl rfl (by decide) (by decide) rfl ?_
  refine z_dup C dX0_set_10 rfl ?_
  refine z_iconst (v := 1) C dX0_set_11 (by decide) ?_
  refine z_iload_n C dX0_set_12 rfl rfl ?_
  refine z_iast (m := 1) (Γ2 := [eSys E s, rs, eIA E a1 2 (upd (upd (fun _ => 0) 0 p1) 1 p2)]) 2 C dX0_set_13 rfl rfl (by decide) (by decide) rfl ?_
  have hd : gDone 122 s.m.abs (upd (upd (fun _ => 0) 0 p1) 1 p2) = gSets s.m.abs p1 p2 := gDone_z _ _
  refine z_callWX (r := (RX0, TX0, 3)) (As := [.int 122, .ref a1]) (rest := []) (Δ := [rs]) [0, 2] [1] 2 (m_act_z hl E s hs a1 2 (upd (upd (fun _ => 0) 0 p1) 1 p2) (by decide) (by decide)) C dX0_set_14 rfl rfl (eIn (i := 0) rfl eSys_mem) rfl rfl q414 q416 qs3 q49 q417 (by decide +kernel) rfl (ePm 3 rfl (by decide +kernel)) rfl rfl ⟨Nat.le_of_ble_eq_true rfl, Nat.le_of_ble_eq_true rfl⟩ (Nat.le_trans eS0 (Nat.le_of_ble_eq_true rfl)) ⟨Nat.le_of_ble_eq_true rfl, Nat.le_of_ble_eq_true rfl⟩ (fun _ _ _ h => h.elim) (fun v_ Γ_ hp_ => ?_)
  obtain ⟨s2, rfl, rfl, hab, hok, hsa⟩ := hp_
  rw [hd] at hab
  show eZ x E _ [eSys E s2, rs] 17 [some (.ref s.a), some (.int p1), some (.int p2)] [.int ((gAct s.abs (gDone 122 s.m.abs (upd (upd (fun _ => 0) 0 p1) 1 p2))).1)] 107 494
  subst hQ_
  exact z_ret (Γ := [eSys E s2]) C dX0_set_17 rfl rfl (Nat.le_of_ble_eq_true rfl) (Nat.le_of_ble_eq_true rfl) ⟨s2, by rw [hd], rfl, hab, hok, hsa⟩

def gUndo (A : As) : Int32 × As := match A.hs.getLast? with
  | none => (-1000002, A)
  | some m => (nI (A.hs.length - 1), (m, A.hs.dropLast, A.tx))

set_option maxHeartbeats 4000000 in
theorem m_undo {l : Launch} (hl : l.stackTraces = false) (E : eEn) (s : Sy) (hs : sOk s) : eMet l E yX0_undo (ws_ yX0_undo cX0_undo 1 (some .int)) ({ frames := 3, cells := 0, slots := 0, locals := 65 }) [.ref s.a] [eSys E s] (sPost E s (gUndo s.abs)) := by
  refine eStart (cc := cX0_undo) (nL := 1) (L := [some (.ref s.a)]) hl (by decide) rfl (List.forall_mem_cons.mpr ⟨rfl, (fun _ h => absurd h List.not_mem_nil)⟩) (Nat.le_of_ble_eq_true rfl) ?_
  intro x rs C
  show eZ x E (eQ x E (sPost E s (gUndo s.abs)) rs) [eSys E s, rs] 0 [some (.ref s.a)] [] 0 0
  generalize hQ_ : eQ x E (sPost E s (gUndo s.abs)) rs = Q_
  obtain ⟨hk1, hk2, hk3, hk4, hk5, hk6⟩ := hs
  have hlh : (hA s.hs).length ≤ 4 := by rw [List.length_map]; exact hk4
  refine z_cut 0 (bs := [eO s.a 0 [.ref s.m.a, .ref s.dq, .ref s.sb], eMac E s.m, eAD E s.dq s.da s.dh (hA s.hs), eMacs E s.hs, eSB E s.sb s.sv s.sN s.ml s.tx.length s.tf, eSto s.S]) rfl eSys_cut rfl ?_
  show eZ x E _ [eO s.a 0 [.ref s.m.a, .ref s.dq, .ref s.sb], eMac E s.m, eAD E s.dq s.da s.dh (hA s.hs), eMacs E s.hs, eSB E s.sb s.sv s.sN s.ml s.tx.length s.tf, eSto s.S, rs] 0 [some (.ref s.a)] [] 0 0
  refine z_aload_n C dX0_undo_0 rfl rfl ?_
  refine z_get eK0 0 1 C dX0_undo_1 rfl rfl q400 (eSame1 rfl) (by decide) rfl ?_
  refine z_callV (r := (RJ8, TJ8, 3)) (As := []) (rest := []) (Δ := [eO s.a 0 [.ref s.m.a, .ref s.dq, .ref s.sb], eMac E s.m, eMacs E s.hs, eSB E s.sb s.sv s.sN s.ml s.tx.length s.tf, eSto s.S, rs]) [2] [0, 1, 3, 4, 5, 6] 0 (m_AD_isEmpty hl E s.dq s.da s.dh (hA s.hs) hk5 (by omega)) C dX0_undo_4 rfl rfl (eIn (i := 2) rfl eAD_mem) rfl rfl q1461 q1462 q1463 q62 q1464 (by decide +kernel) rfl (ePm 7 rfl (by decide +kernel)) rfl rfl ⟨Nat.le_of_ble_eq_true rfl, Nat.le_of_ble_eq_true rfl⟩ (Nat.le_trans eS0 (Nat.le_of_ble_eq_true rfl)) ⟨Nat.le_of_ble_eq_true rfl, Nat.le_of_ble_eq_true rfl⟩ (fun v_ Γ_ hp_ => ?_)
  obtain ⟨rfl, rfl⟩ := hp_
  show eZ x E _ [eAD E s.dq s.da s.dh (hA s.hs), eO s.a 0 [.ref s.m.a, .ref s.dq, .ref s.sb], eMac E s.m, eMacs E s.hs, eSB E s.sb s.sv s.sN s.ml s.tx.length s.tf, eSto s.S, rs] 7 [some (.ref s.a)] [.int (eB (hA s.hs).isEmpty)] 0 0
  refine z_if_eq_B 13 C dX0_undo_7 (by decide) (fun h1 => ?_) (fun h1 => ?_)
  · obtain ⟨ys, m2, hys⟩ : ∃ ys z, s.hs = ys ++ [z] := by
      rcases List.eq_nil_or_concat s.hs with h | ⟨ys, z, h⟩
      · rw [h] at h1; cases h1
      · exact ⟨ys, z, by rw [h, List.concat_eq_append]⟩
    have hyl : ys.length + 1 ≤ 4 := by rw [hys, List.length_append] at hk4; exact hk4
    have hm2 := hk3 m2 (by rw [hys]; simp)
    refine z_go (Γ' := [eAD E s.dq s.da s.dh (hA ys ++ [m2.a]), eO s.a 0 [.ref s.m.a, .ref s.dq, .ref s.sb], eMac E s.m, eMacs E s.hs, eSB E s.sb s.sv s.sN s.ml s.tx.length s.tf, eSto s.S, rs]) (by rw [show hA s.hs = hA ys ++ [m2.a] from by rw [hys]; simp]) ?_
    show eZ x E _ [eAD E s.dq s.da s.dh (hA ys ++ [m2.a]), eO s.a 0 [.ref s.m.a, .ref s.dq, .ref s.sb], eMac E s.m, eMacs E s.hs, eSB E s.sb s.sv s.sN s.ml s.tx.length s.tf, eSto s.S, rs] 13 [some (.ref s.a)] [] 0 0
    refine z_cut 3 (bs := [eMacs E ys, eMac E m2]) rfl (by rw [hys, eMacs_app, eMacs_cons, eMacs_nil]; simp) rfl ?_
    show eZ x E _ [eAD E s.dq s.da s.dh (hA ys ++ [m2.a]), eO s.a 0 [.ref s.m.a, .ref s.dq, .ref s.sb], eMac E s.m, eMacs E ys, eMac E m2, eSB E s.sb s.sv s.sN s.ml s.tx.length s.tf, eSto s.S, rs] 13 [some (.ref s.a)] [] 0 0
    refine z_aload_n C dX0_undo_13 rfl rfl ?_
    refine z_aload_n C dX0_undo_14 rfl rfl ?_
    refine z_get eK0 1 1 C dX0_undo_15 rfl rfl q400 (eSame1 rfl) (by decide) rfl ?_
    refine z_callV (r := (RJ8, TJ8, 3)) (As := []) (rest := [.ref s.a]) (Δ := [eO s.a 0 [.ref s.m.a, .ref s.dq, .ref s.sb], eMac E s.m, eMacs E ys, eMac E m2, eSB E s.sb s.sv s.sN s.ml s.tx.length s.tf, eSto s.S, rs]) [0] [1, 2, 3, 4, 5, 6, 7] 0 (m_AD_removeLast hl E s.dq s.da s.dh m2.a (hA ys) hk5 (by rw [List.length_map]; omega)) C dX0_undo_18 rfl rfl (eIn (i := 0) rfl eAD_mem) rfl rfl q1465 q1466 q1467 q62 q1468 (by decide +kernel) rfl (ePm 8 rfl (by decide +kernel)) rfl rfl ⟨Nat.le_of_ble_eq_true rfl, Nat.le_of_ble_eq_true rfl⟩ (Nat.le_trans (eSm rfl eS0) (Nat.le_of_ble_eq_true rfl)) ⟨Nat.le_of_ble_eq_true rfl, Nat.le_of_ble_eq_true rfl⟩ (fun v_ Γ_ hp_ => ?_)
    obtain ⟨rfl, rfl⟩ := hp_
    show eZ x E _ [eAD E s.dq s.da s.dh (hA ys), eO s.a 0 [.ref s.m.a, .ref s.dq, .ref s.sb], eMac E s.m, eMacs E ys, eMac E m2, eSB E s.sb s.sv s.sN s.ml s.tx.length s.tf, eSto s.S, rs] 21 [some (.ref s.a)] [.ref m2.a, .ref s.a] 0 0
    refine z_castE C dX0_undo_21 (eIn (i := 4) rfl eMac_mem) (show eCl[1]? = some _ from rfl) rfl q101 ?_
    refine z_put eK0 1 0 (Γ2 := [eAD E s.dq s.da s.dh (hA ys), eO s.a 0 [.ref m2.a, .ref s.dq, .ref s.sb], eMac E s.m, eMacs E ys, eMac E m2, eSB E s.sb s.sv s.sN s.ml s.tx.length s.tf, eSto s.S, rs]) C dX0_undo_24 rfl rfl q399 (eSame1 rfl) (by decide) rfl rfl rfl rfl (Nat.le_of_ble_eq_true rfl) rfl ?_
    refine z_aload_n C dX0_undo_27 rfl rfl ?_
    refine z_get eK0 1 1 C dX0_undo_28 rfl rfl q400 (eSame1 rfl) (by decide) rfl ?_
    refine z_callV (r := (RJ8, TJ8, 3)) (As := []) (rest := []) (Δ := [eO s.a 0 [.ref m2.a, .ref s.dq, .ref s.sb], eMac E s.m, eMacs E ys, eMac E m2, eSB E s.sb s.sv s.sN s.ml s.tx.length s.tf, eSto s.S, rs]) [0] [1, 2, 3, 4, 5, 6, 7] 0 (m_AD_size hl E s.dq s.da s.dh (hA ys) hk5 (by rw [List.length_map]; omega)) C dX0_undo_31 rfl rfl (eIn (i := 0) rfl eAD_mem) rfl rfl q1293 q1043 q1950 q62 q1044 (by decide +kernel) rfl (ePm 8 rfl (by decide +kernel)) rfl rfl ⟨Nat.le_of_ble_eq_true rfl, Nat.le_of_ble_eq_true rfl⟩ (Nat.le_trans eS0 (Nat.le_of_ble_eq_true rfl)) ⟨Nat.le_of_ble_eq_true rfl, Nat.le_of_ble_eq_true rfl⟩ (fun v_ Γ_ hp_ => ?_)
    obtain ⟨rfl, rfl⟩ := hp_
    show eZ x E _ [eAD E s.dq s.da s.dh (hA ys), eO s.a 0 [.ref m2.a, .ref s.dq, .ref s.sb], eMac E s.m, eMacs E ys, eMac E m2, eSB E s.sb s.sv s.sN s.ml s.tx.length s.tf, eSto s.S, rs] 34 [some (.ref s.a)] [.int (nI (hA ys).length)] 0 0
    refine z_pick (Γ' := [eO s.a 0 [.ref m2.a, .ref s.dq, .ref s.sb], eMac E m2, eAD E s.dq s.da s.dh (hA ys), eMacs E ys, eSB E s.sb s.sv s.sN s.ml s.tx.length s.tf, eSto s.S, eMac E s.m, rs]) [1, 4, 0, 3, 5, 6, 2, 7] (ePm 8 rfl (by decide +kernel)) rfl ?_
    refine z_join 6 (b := eSys E (s.a, m2, s.dq, s.da, s.dh, ys, s.sb, s.sv, s.sN, s.ml, s.tx, s.tf, s.S)) (by rw [eSys_cut]; rfl) rfl ?_
    show eZ x E _ [eSys E (s.a, m2, s.dq, s.da, s.dh, ys, s.sb, s.sv, s.sN, s.ml, s.tx, s.tf, s.S), eMac E s.m, rs] 34 [some (.ref s.a)] [.int (nI (hA ys).length)] 0 0
    refine z_pick (Γ' := [eMac E s.m, eSys E (s.a, m2, s.dq, s.da, s.dh, ys, s.sb, s.sv, s.sN, s.ml, s.tx, s.tf, s.S), rs]) [1, 0, 2] (ePm 3 rfl (by decide +kernel)) rfl ?_
    refine z_drop ?_
    show eZ x E _ [eSys E (s.a, m2, s.dq, s.da, s.dh, ys, s.sb, s.sv, s.sN, s.ml, s.tx, s.tf, s.S), rs] 34 [some (.ref s.a)] [.int (nI (hA ys).length)] 0 0
    have hU : gUndo s.abs = (nI ys.length, (m2.abs, ys.map Cm.abs, s.tx)) := by rw [gUndo]; show (match (s.hs.map Cm.abs).getLast? with | none => ((-1000002, s.abs) : Int32 × As) | some m => (nI ((s.hs.map Cm.abs).length - 1), (m, (s.hs.map Cm.abs).dropLast, s.tx))) = _; rw [hys, List.map_append]; simp
    subst hQ_
    exact z_ret (Γ := [eSys E (s.a, m2, s.dq, s.da, s.dh, ys, s.sb, s.sv, s.sN, s.ml, s.tx, s.tf, s.S)]) C dX0_undo_34 rfl rfl (Nat.le_of_ble_eq_true rfl) (Nat.le_of_ble_eq_true rfl) ⟨(s.a, m2, s.dq, s.da, s.dh, ys, s.sb, s.sv, s.sN, s.ml, s.tx, s.tf, s.S), by rw [hU, List.length_map], rfl, by rw [hU]; rfl, ⟨hm2.1, hm2.2, fun h hh => hk3 h (by rw [hys]; exact List.mem_append_left _ hh), by show ys.length ≤ 4; omega, hk5, hk6⟩, rfl⟩
  · refine z_ldc C dX0_undo_10 rfl q1390 ?_
    have hnil : s.hs = [] := by cases hx : s.hs with | nil => rfl | cons a t => rw [hx] at h1; cases h1
    refine z_pick (Γ' := [eO s.a 0 [.ref s.m.a, .ref s.dq, .ref s.sb], eMac E s.m, eAD E s.dq s.da s.dh (hA s.hs), eMacs E s.hs, eSB E s.sb s.sv s.sN s.ml s.tx.length s.tf, eSto s.S, rs]) [1, 2, 0, 3, 4, 5, 6] (ePm 7 rfl (by decide +kernel)) rfl ?_
    refine z_join 6 (b := eSys E s) eSys_cut.symm rfl ?_
    show eZ x E _ [eSys E s, rs] 12 [some (.ref s.a)] [.int (-1000002)] 0 0
    subst hQ_
    exact z_ret (Γ := [eSys E s]) C dX0_undo_12 rfl rfl (Nat.le_of_ble_eq_true rfl) (Nat.le_of_ble_eq_true rfl) ⟨s, by rw [gUndo, Sy.abs, hnil]; rfl, rfl, by rw [gUndo]; show s.abs = (match (s.hs.map Cm.abs).getLast? with | none => ((-1000002, s.abs) : Int32 × As) | some m => _).2; rw [hnil]; rfl, ⟨hk1, hk2, hk3, hk4, hk5, hk6⟩, rfl⟩
