/-! ===== texts ===== -/
set_option maxRecDepth 100000
def gType (A : As) (ch : Int32) : Int32 × As := if eBt ch 32 126 = true then (if A.tx.length = 60 then (-1000003, A) else (nI (A.tx.length + 1), (A.m, A.hs, A.tx ++ [nN ch]))) else (-1000001, A)
def gClear (A : As) : Int32 × As := (nI A.tx.length, (A.m, A.hs, []))
theorem eI2c : ∀ k : Nat, k < 128 → ((nI k).toUInt32 % 65536).toInt32 = nI k := by decide +kernel
theorem eCh {ch : Int32} (h : eBt ch 32 126 = true) : ∃ c : Nat, 32 ≤ c ∧ c ≤ 126 ∧ ch = nI c := by
  have h1 := of_decide_eq_true h
  have h0 : (0 : Int32) ≤ ch := Int32.le_trans (by decide) h1.1
  exact ⟨nN ch, nN_le (a := 32) (by decide) h1.1, nN_le h0 h1.2, nI_nN h0⟩

set_option maxHeartbeats 4000000 in
theorem m_type {l : Launch} (hl : l.stackTraces = false) (E : eEn) (s : Sy) (hs : sOk s) (ch : Int32) : eMet l E yX0_type (ws_ yX0_type cX0_type 2 (some .int)) ({ frames := 6, cells := 1, slots := 246, locals := 146 }) [.ref s.a, .int ch] [eSys E s] (sPost E s (gType s.abs ch)) := by
  refine eStart (cc := cX0_type) (nL := 2) (L := [some (.ref s.a), some (.int ch)]) hl (by decide) rfl (List.forall_mem_cons.mpr ⟨rfl, (List.forall_mem_cons.mpr ⟨rfl, (fun _ h => absurd h List.not_mem_nil)⟩)⟩) (Nat.le_of_ble_eq_true rfl) ?_
  intro x rs C
  show eZ x E (eQ x E (sPost E s (gType s.abs ch)) rs) [eSys E s, rs] 0 [some (.ref s.a), some (.int ch)] [] 0 0
  generalize hQ_ : eQ x E (sPost E s (gType s.abs ch)) rs = Q_
  have hs0 := hs
  refine z_iload_n C dX0_type_0 rfl rfl ?_
  refine z_i2l (v := ch.toInt64) C dX0_type_1 rfl ?_
  refine z_ldc2 C dX0_type_2 rfl q1480 ?_
  refine z_ldc2 C dX0_type_5 rfl q1481 ?_
  refine z_callS (As := [.long ch.toInt64, .long 32, .long 126]) (rest := []) (Δ := [eSys E s, rs]) [] [0, 1] 3 (m_bt hl E ch 32 126 32 126 (by decide) (by decide)) C dX0_type_8 rfl rfl rfl q986 q987 q49 q988 (by decide +kernel) rfl (ePm 2 rfl (by decide +kernel)) rfl rfl ⟨Nat.le_of_ble_eq_true rfl, Nat.le_of_ble_eq_true rfl⟩ (Nat.le_trans eS0 (Nat.le_of_ble_eq_true rfl)) ⟨Nat.le_of_ble_eq_true rfl, Nat.le_of_ble_eq_true rfl⟩ (fun v_ Γ_ hp_ => ?_)
  obtain ⟨rfl, rfl⟩ := hp_
  show eZ x E _ [eSys E s, rs] 11 [some (.ref s.a), some (.int ch)] [.int (eB (eBt ch 32 126))] 0 0
  refine z_if_ne_B 17 C dX0_type_11 (by decide) (fun hb => ?_) (fun hb => ?_)
  · obtain ⟨hs1, hs2, hs3, hs4, hs5, hs6⟩ := hs
    obtain ⟨ht1, ht2, ht3, ht4, ht5, ht6⟩ := hs6
    obtain ⟨c, hc1, hc2, rfl⟩ := eCh hb
    have hnc : nN (nI c) = c := nN_nI (by omega)
    refine z_cut 0 (bs := [eO s.a 0 [.ref s.m.a, .ref s.dq, .ref s.sb], eMac E s.m, eAD E s.dq s.da s.dh (hA s.hs), eMacs E s.hs, eSB E s.sb s.sv s.sN s.ml s.tx.length s.tf, eSto s.S]) rfl eSys_cut rfl ?_
    show eZ x E _ [eO s.a 0 [.ref s.m.a, .ref s.dq, .ref s.sb], eMac E s.m, eAD E s.dq s.da s.dh (hA s.hs), eMacs E s.hs, eSB E s.sb s.sv s.sN s.ml s.tx.length s.tf, eSto s.S, rs] 17 [some (.ref s.a), some (.int (nI c))] [] 0 0
    refine z_aload_n C dX0_type_17 rfl rfl ?_
    refine z_get eK0 0 2 C dX0_type_18 rfl rfl q402 (eSame1 rfl) (by decide) rfl ?_
    refine z_callV (r := (RJ10, TJ10, 4)) (As := []) (rest := []) (Δ := [eO s.a 0 [.ref s.m.a, .ref s.dq, .ref s.sb], eMac E s.m, eAD E s.dq s.da s.dh (hA s.hs), eMacs E s.hs, eSto s.S, rs]) [4] [0, 1, 2, 3, 5, 6] 0 (m_SB_length hl E s.sb s.sv s.sN s.ml s.tx.length s.tf) C dX0_type_21 rfl rfl (eIn (i := 4) rfl eSB_mem) rfl rfl q1454 q744 q1952 q64 q745 (by decide +kernel) rfl (ePm 7 rfl (by decide +kernel)) rfl rfl ⟨Nat.le_of_ble_eq_true rfl, Nat.le_of_ble_eq_true rfl⟩ (Nat.le_trans eS0 (Nat.le_of_ble_eq_true rfl)) ⟨by first | omega | (dsimp only; omega), by first | omega | (dsimp only; omega)⟩ (fun v_ Γ_ hp_ => ?_)
    obtain ⟨rfl, rfl⟩ := hp_
    show eZ x E _ [eSB E s.sb s.sv s.sN s.ml s.tx.length s.tf, eO s.a 0 [.ref s.m.a, .ref s.dq, .ref s.sb], eMac E s.m, eAD E s.dq s.da s.dh (hA s.hs), eMacs E s.hs, eSto s.S, rs] 24 [some (.ref s.a), some (.int (nI c))] [.int (nI s.tx.length)] 0 0
    refine z_bipush (v := 60) C dX0_type_24 (by decide) ?_
    refine z_icmp_ne 33 C dX0_type_26 (by decide) (fun h6 => ?_) (fun h6 => ?_)
    · have h60 : ¬ s.tx.length = 60 := fun h => h6 ((nI_eq (b := 60) (by omega) (by decide)).mpr h)
      refine z_aload_n C dX0_type_33 rfl rfl ?_
      refine z_get eK0 1 2 C dX0_type_34 rfl rfl q402 (eSame1 rfl) (by decide) rfl ?_
      refine z_iload_n C dX0_type_37 rfl rfl ?_
      refine z_i2c (v := nI c) C dX0_type_38 (eI2c c (by omega)) ?_
      refine z_callV (r := (RJ10, TJ10, 4)) (As := [.int (nI c)]) (rest := []) (Δ := [eO s.a 0 [.ref s.m.a, .ref s.dq, .ref s.sb], eMac E s.m, eAD E s.dq s.da s.dh (hA s.hs), eMacs E s.hs, eSto s.S, rs]) [0] [1, 2, 3, 4, 5, 6] 1 (m_SB_append hl E s.sb s.sv s.sN s.ml s.tx.length s.tf (by omega) ht2 ht4 c (by omega)) C dX0_type_39 rfl rfl (eIn (i := 0) rfl eSB_mem) rfl rfl q1483 q1484 q1485 q64 q1486 (by decide +kernel) rfl (ePm 7 rfl (by decide +kernel)) rfl rfl ⟨Nat.le_of_ble_eq_true rfl, Nat.le_of_ble_eq_true rfl⟩ (Nat.le_trans eS0 (Nat.le_of_ble_eq_true rfl)) ⟨by (try dsimp only); omega, by (try dsimp only); omega⟩ (fun v_ Γ_ hp_ => ?_)
      obtain ⟨rfl, v2, N2, f2, rfl, hN1, hN2, hf1, hf2, hf3⟩ := hp_
      show eZ x E _ [eSB E s.sb v2 N2 s.ml (s.tx.length + 1) f2, eO s.a 0 [.ref s.m.a, .ref s.dq, .ref s.sb], eMac E s.m, eAD E s.dq s.da s.dh (hA s.hs), eMacs E s.hs, eSto s.S, rs] 42 [some (.ref s.a), some (.int (nI c))] [.ref s.sb] 1 (0 + (s.sN + (s.sN + 2)))
      refine z_pop C dX0_type_42 rfl ?_
      refine z_aload_n C dX0_type_43 rfl rfl ?_
      refine z_get eK0 1 2 C dX0_type_44 rfl rfl q402 (eSame1 rfl) (by decide) rfl ?_
      refine z_callV (r := (RJ10, TJ10, 4)) (As := []) (rest := []) (Δ := [eO s.a 0 [.ref s.m.a, .ref s.dq, .ref s.sb], eMac E s.m, eAD E s.dq s.da s.dh (hA s.hs), eMacs E s.hs, eSto s.S, rs]) [0] [1, 2, 3, 4, 5, 6] 0 (m_SB_length hl E s.sb v2 N2 s.ml (s.tx.length + 1) f2) C dX0_type_47 rfl rfl (eIn (i := 0) rfl eSB_mem) rfl rfl q1454 q744 q1952 q64 q745 (by decide +kernel) rfl (ePm 7 rfl (by decide +kernel)) rfl rfl ⟨Nat.le_of_ble_eq_true rfl, Nat.le_of_ble_eq_true rfl⟩ (Nat.le_trans eS0 (Nat.le_of_ble_eq_true rfl)) ⟨by first | omega | (dsimp only; omega), by first | omega | (dsimp only; omega)⟩ (fun v_ Γ_ hp_ => ?_)
      obtain ⟨rfl, rfl⟩ := hp_
      show eZ x E _ [eSB E s.sb v2 N2 s.ml (s.tx.length + 1) f2, eO s.a 0 [.ref s.m.a, .ref s.dq, .ref s.sb], eMac E s.m, eAD E s.dq s.da s.dh (hA s.hs), eMacs E s.hs, eSto s.S, rs] 50 [some (.ref s.a), some (.int (nI c))] [.int (nI (s.tx.length + 1))] 1 (0 + (s.sN + (s.sN + 2)))
      refine z_pick (Γ' := [eO s.a 0 [.ref s.m.a, .ref s.dq, .ref s.sb], eMac E s.m, eAD E s.dq s.da s.dh (hA s.hs), eMacs E s.hs, eSB E s.sb v2 N2 s.ml (s.tx.length + 1) f2, eSto s.S, rs]) [1, 2, 3, 4, 0, 5, 6] (ePm 7 rfl (by decide +kernel)) rfl ?_
      refine z_join 6 (b := eSys E (s.a, s.m, s.dq, s.da, s.dh, s.hs, s.sb, v2, N2, s.ml, s.tx ++ [c], f2, s.S)) (by rw [eSys_cut]; show _ = [eO s.a 0 [.ref s.m.a, .ref s.dq, .ref s.sb], eMac E s.m, eAD E s.dq s.da s.dh (hA s.hs), eMacs E s.hs, eSB E s.sb v2 N2 s.ml (s.tx ++ [c]).length f2, eSto s.S].flatten; rw [show (s.tx ++ [c]).length = s.tx.length + 1 from by simp]; rfl) rfl ?_
      show eZ x E _ [eSys E (s.a, s.m, s.dq, s.da, s.dh, s.hs, s.sb, v2, N2, s.ml, s.tx ++ [c], f2, s.S), rs] 50 [some (.ref s.a), some (.int (nI c))] [.int (nI (s.tx.length + 1))] 1 (0 + (s.sN + (s.sN + 2)))
      subst hQ_
      exact z_ret (Γ := [eSys E (s.a, s.m, s.dq, s.da, s.dh, s.hs, s.sb, v2, N2, s.ml, s.tx ++ [c], f2, s.S)]) C dX0_type_50 rfl rfl (by (try dsimp only); omega) (by (try dsimp only); omega) ⟨(s.a, s.m, s.dq, s.da, s.dh, s.hs, s.sb, v2, N2, s.ml, s.tx ++ [c], f2, s.S), by rw [gType, if_pos hb, if_neg (show ¬ s.abs.tx.length = 60 from h60)]; rfl, rfl, by rw [gType, if_pos hb, if_neg (show ¬ s.abs.tx.length = 60 from h60), hnc]; rfl, ⟨hs1, hs2, hs3, hs4, hs5, by show (s.tx ++ [c]).length ≤ 60; rw [List.length_append]; show s.tx.length + 1 ≤ 60; omega, by show (s.tx ++ [c]).length ≤ N2; rw [List.length_append]; exact hN1, by show N2 ≤ 122; omega, hf3, fun d hd => by rcases List.mem_append.mp hd with h | h; exact ht5 d h; rw [List.mem_singleton.mp h]; exact ⟨hc1, hc2⟩, fun i d hd => by show f2 i = nI d; rcases Nat.lt_or_ge i s.tx.length with h | h; rw [show Sy.tx (s.a, s.m, s.dq, s.da, s.dh, s.hs, s.sb, v2, N2, s.ml, s.tx ++ [c], f2, s.S) = s.tx ++ [c] from rfl, List.getElem?_append_left h] at hd; rw [hf2 i h]; exact ht6 i d hd; rw [show Sy.tx (s.a, s.m, s.dq, s.da, s.dh, s.hs, s.sb, v2, N2, s.ml, s.tx ++ [c], f2, s.S) = s.tx ++ [c] from rfl, List.getElem?_append_right h] at hd; rcases Nat.eq_zero_or_pos (i - s.tx.length) with h9 | h9; rw [h9] at hd; cases hd; rw [show i = s.tx.length by omega]; exact hf1; rw [List.getElem?_eq_none (by simp; omega)] at hd; cases hd⟩, rfl⟩
    · have h60 : s.tx.length = 60 := (nI_eq (by omega) (by decide)).mp h6
      refine z_ldcw C dX0_type_29 rfl q1482 ?_
      refine z_pick (Γ' := [eO s.a 0 [.ref s.m.a, .ref s.dq, .ref s.sb], eMac E s.m, eAD E s.dq s.da s.dh (hA s.hs), eMacs E s.hs, eSB E s.sb s.sv s.sN s.ml s.tx.length s.tf, eSto s.S, rs]) [1, 2, 3, 4, 0, 5, 6] (ePm 7 rfl (by decide +kernel)) rfl ?_
      refine z_join 6 (b := eSys E s) eSys_cut.symm rfl ?_
      show eZ x E _ [eSys E s, rs] 32 [some (.ref s.a), some (.int (nI c))] [.int (-1000003)] 0 0
      subst hQ_
      exact z_ret (Γ := [eSys E s]) C dX0_type_32 rfl rfl (by (try dsimp only); omega) (by (try dsimp only); omega) ⟨s, by rw [gType, if_pos hb, if_pos (show s.abs.tx.length = 60 from h60)], rfl, by rw [gType, if_pos hb, if_pos (show s.abs.tx.length = 60 from h60)], hs0, rfl⟩
  · refine z_ldc C dX0_type_14 rfl q1335 ?_
    subst hQ_
    exact z_ret (Γ := [eSys E s]) C dX0_type_16 rfl rfl (Nat.le_of_ble_eq_true rfl) (Nat.le_of_ble_eq_true rfl) ⟨s, by rw [gType, if_neg (by rw [hb]; decide)], rfl, by rw [gType, if_neg (by rw [hb]; decide)], hs0, rfl⟩

set_option maxHeartbeats 4000000 in
theorem m_clearText {l : Launch} (hl : l.stackTraces = false) (E : eEn) (s : Sy) (hs : sOk s) : eMet l E yX0_clearText (ws_ yX0_clearText cX0_clearText 2 (some .int)) ({ frames := 3, cells := 0, slots := 0, locals := 64 }) [.ref s.a] [eSys E s] (sPost E s (gClear s.abs)) := by
  refine eStart (cc := cX0_clearText) (nL := 2) (L := [some (.ref s.a), none]) hl (by decide) rfl (List.forall_mem_cons.mpr ⟨rfl, (fun _ h => absurd h List.not_mem_nil)⟩) (Nat.le_of_ble_eq_true rfl) ?_
  intro x rs C
  show eZ x E (eQ x E (sPost E s (gClear s.abs)) rs) [eSys E s, rs] 0 [some (.ref s.a), none] [] 0 0
  generalize hQ_ : eQ x E (sPost E s (gClear s.abs)) rs = Q_
  obtain ⟨hs1, hs2, hs3, hs4, hs5, hs6⟩ := hs
  obtain ⟨ht1, ht2, ht3, ht4, ht5, ht6⟩ := hs6
  refine z_cut 0 (bs := [eO s.a 0 [.ref s.m.a, .ref s.dq, .ref s.sb], eMac E s.m, eAD E s.dq s.da s.dh (hA s.hs), eMacs E s.hs, eSB E s.sb s.sv s.sN s.ml s.tx.length s.tf, eSto s.S]) rfl eSys_cut rfl ?_
  show eZ x E _ [eO s.a 0 [.ref s.m.a, .ref s.dq, .ref s.sb], eMac E s.m, eAD E s.dq s.da s.dh (hA s.hs), eMacs E s.hs, eSB E s.sb s.sv s.sN s.ml s.tx.length s.tf, eSto s.S, rs] 0 [some (.ref s.a), none] [] 0 0
  refine z_aload_n C dX0_clearText_0 rfl rfl ?_
  refine z_get eK0 0 2 C dX0_clearText_1 rfl rfl q402 (eSame1 rfl) (by decide) rfl ?_
  refine z_callV (r := (RJ10, TJ10, 4)) (As := []) (rest := []) (Δ := [eO s.a 0 [.ref s.m.a, .ref s.dq, .ref s.sb], eMac E s.m, eAD E s.dq s.da s.dh (hA s.hs), eMacs E s.hs, eSto s.S, rs]) [4] [0, 1, 2, 3, 5, 6] 0 (m_SB_length hl E s.sb s.sv s.sN s.ml s.tx.length s.tf) C dX0_clearText_4 rfl rfl (eIn (i := 4) rfl eSB_mem) rfl rfl q1454 q744 q1952 q64 q745 (by decide +kernel) rfl (ePm 7 rfl (by decide +kernel)) rfl rfl ⟨Nat.le_of_ble_eq_true rfl, Nat.le_of_ble_eq_true rfl⟩ (Nat.le_trans eS0 (Nat.le_of_ble_eq_true rfl)) ⟨Nat.le_of_ble_eq_true rfl, Nat.le_of_ble_eq_true rfl⟩ (fun v_ Γ_ hp_ => ?_)
  obtain ⟨rfl, rfl⟩ := hp_
  show eZ x E _ [eSB E s.sb s.sv s.sN s.ml s.tx.length s.tf, eO s.a 0 [.ref s.m.a, .ref s.dq, .ref s.sb], eMac E s.m, eAD E s.dq s.da s.dh (hA s.hs), eMacs E s.hs, eSto s.S, rs] 7 [some (.ref s.a), none] [.int (nI s.tx.length)] 0 0
  refine z_istore_n (L2 := [some (.ref s.a), some (.int (nI s.tx.length))]) C dX0_clearText_7 rfl (Nat.le_of_ble_eq_true rfl) rfl ?_
  refine z_aload_n C dX0_clearText_8 rfl rfl ?_
  refine z_get eK0 1 2 C dX0_clearText_9 rfl rfl q402 (eSame1 rfl) (by decide) rfl ?_
  refine z_iconst (v := 0) C dX0_clearText_12 (by decide) ?_
  refine z_callV (r := (RJ10, TJ10, 4)) (As := [.int 0]) (rest := []) (Δ := [eO s.a 0 [.ref s.m.a, .ref s.dq, .ref s.sb], eMac E s.m, eAD E s.dq s.da s.dh (hA s.hs), eMacs E s.hs, eSto s.S, rs]) [0] [1, 2, 3, 4, 5, 6] 1 (m_SB_setLength hl E s.sb s.sv s.sN s.ml s.tx.length s.tf (by omega) ht2 ht4) C dX0_clearText_13 rfl rfl (eIn (i := 0) rfl eSB_mem) rfl rfl q1507 q1508 q1509 q64 q1510 (by decide +kernel) rfl (ePm 7 rfl (by decide +kernel)) rfl rfl ⟨Nat.le_of_ble_eq_true rfl, Nat.le_of_ble_eq_true rfl⟩ (Nat.le_trans eS0 (Nat.le_of_ble_eq_true rfl)) ⟨Nat.le_of_ble_eq_true rfl, Nat.le_of_ble_eq_true rfl⟩ (fun v_ Γ_ hp_ => ?_)
  obtain ⟨rfl, ml2, rfl⟩ := hp_
  show eZ x E _ [eSB E s.sb s.sv s.sN ml2 0 s.tf, eO s.a 0 [.ref s.m.a, .ref s.dq, .ref s.sb], eMac E s.m, eAD E s.dq s.da s.dh (hA s.hs), eMacs E s.hs, eSto s.S, rs] 16 [some (.ref s.a), some (.int (nI s.tx.length))] [] 0 0
  refine z_iload_n C dX0_clearText_16 rfl rfl ?_
  refine z_pick (Γ' := [eO s.a 0 [.ref s.m.a, .ref s.dq, .ref s.sb], eMac E s.m, eAD E s.dq s.da s.dh (hA s.hs), eMacs E s.hs, eSB E s.sb s.sv s.sN ml2 0 s.tf, eSto s.S, rs]) [1, 2, 3, 4, 0, 5, 6] (ePm 7 rfl (by decide +kernel)) rfl ?_
  refine z_join 6 (b := eSys E (s.a, s.m, s.dq, s.da, s.dh, s.hs, s.sb, s.sv, s.sN, ml2, [], s.tf, s.S)) (by rw [eSys_cut]; rfl) rfl ?_
  show eZ x E _ [eSys E (s.a, s.m, s.dq, s.da, s.dh, s.hs, s.sb, s.sv, s.sN, ml2, [], s.tf, s.S), rs] 17 [some (.ref s.a), some (.int (nI s.tx.length))] [.int (nI s.tx.length)] 0 0
  subst hQ_
  exact z_ret (Γ := [eSys E (s.a, s.m, s.dq, s.da, s.dh, s.hs, s.sb, s.sv, s.sN, ml2, [], s.tf, s.S)]) C dX0_clearText_17 rfl rfl (Nat.le_of_ble_eq_true rfl) (Nat.le_of_ble_eq_true rfl) ⟨(s.a, s.m, s.dq, s.da, s.dh, s.hs, s.sb, s.sv, s.sN, ml2, [], s.tf, s.S), rfl, rfl, rfl, ⟨hs1, hs2, hs3, hs4, hs5, Nat.zero_le _, Nat.zero_le _, ht3, ht4, (fun _ h => absurd h List.not_mem_nil), fun i c h => by cases h⟩, rfl⟩
