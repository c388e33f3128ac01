/-! ===== StringBuilder ===== -/
set_option maxRecDepth 100000
/-- a builder: its array a of N bytes, n of them in use -/
def eSB (E : eEn) (q a N : Nat) (ml : Int32) (n : Nat) (f : Nat → Int32) : va_W := eO q 18 [.ref a, .int 0, .int ml, .int (nI n)] ++ eBA E a N f
theorem eSB_mem {E : eEn} {q a N : Nat} {ml : Int32} {n : Nat} {f : Nat → Int32} : (q, (.inr (18, [.ref a, .int 0, .int ml, .int (nI n)]) : va_E)) ∈ eSB E q a N ml n f := List.mem_cons_self
theorem eSB_cut {E : eEn} {q a N : Nat} {ml : Int32} {n : Nat} {f : Nat → Int32} : eSB E q a N ml n f = [eO q 18 [.ref a, .int 0, .int ml, .int (nI n)], eBA E a N f].flatten := rfl
theorem eI2b : ∀ k : Nat, k < 128 → nI k = (nI k).toInt8.toInt32 := by decide +kernel
theorem eNarB : ∀ k : Nat, k < 128 → nI k = vp_nar .byte (nI k) := by decide +kernel
theorem eChr : ∀ k : Nat, k < 128 → nI k = ((nI k &&& 255).toUInt32 % 65536).toInt32 := by decide +kernel

set_option maxHeartbeats 4000000 in
theorem m_SB_isLatin1 {l : Launch} (hl : l.stackTraces = false) (E : eEn) (q a N : Nat) (ml : Int32) (n : Nat) (f : Nat → Int32)  : eMet l E yJ9_isLatin1 (ws_ yJ9_isLatin1 cJ9_isLatin1 1 (some .boolean)) ({ frames := 0, cells := 0, slots := 0, locals := 0 }) [.ref q] [eSB E q a N ml n f] (fun v Γ => v = some (.int 1) ∧ Γ = [eSB E q a N ml n f]) := by
  refine eStart (cc := cJ9_isLatin1) (nL := 1) (L := [some (.ref q)]) hl (by decide) rfl (List.forall_mem_cons.mpr ⟨rfl, (fun _ h => absurd h List.not_mem_nil)⟩) (Nat.le_of_ble_eq_true rfl) ?_
  intro x rs C
  show eZ x E (eQ x E (fun v Γ => v = some (.int 1) ∧ Γ = [eSB E q a N ml n f]) rs) [eSB E q a N ml n f, rs] 0 [some (.ref q)] [] 0 0
  generalize hQ_ : eQ x E (fun v Γ => v = some (.int 1) ∧ Γ = [eSB E q a N ml n f]) rs = Q_
  refine z_cut 0 (bs := [eO q 18 [.ref a, .int 0, .int ml, .int (nI n)], eBA E a N f]) rfl eSB_cut rfl ?_
  show eZ x E _ [eO q 18 [.ref a, .int 0, .int ml, .int (nI n)], eBA E a N f, rs] 0 [some (.ref q)] [] 0 0
  refine z_getsC C dJ9_isLatin1_0 rfl q374 rfl ?_
  refine z_if_eq 17 C dJ9_isLatin1_3 (by decide) (fun h_ => absurd h_ (by decide)) (fun h_ => ?_)
  refine z_aload_n C dJ9_isLatin1_6 rfl rfl ?_
  refine z_get eK18 0 1 C dJ9_isLatin1_7 rfl rfl q384 (eSame1 rfl) (by decide) rfl ?_
  refine z_if_ne 17 C dJ9_isLatin1_10 (by decide) (fun h_ => absurd h_ (absurd rfl h_)) (fun h_ => ?_)
  refine z_iconst (v := 1) C dJ9_isLatin1_13 (by decide) ?_
  refine z_goto 18 C dJ9_isLatin1_14 (by decide) ?_
  refine z_join 2 (b := eSB E q a N ml n f) eSB_cut.symm rfl ?_
  show eZ x E _ [eSB E q a N ml n f, rs] 18 [some (.ref q)] [.int 1] 0 0
  subst hQ_
  exact z_ret (Γ := [eSB E q a N ml n f]) C dJ9_isLatin1_18 rfl (by decide) (Nat.le_of_ble_eq_true rfl) (Nat.le_of_ble_eq_true rfl) ⟨rfl, rfl⟩

set_option maxHeartbeats 4000000 in
theorem m_newLength {l : Launch} (hl : l.stackTraces = false) (E : eEn) (N : Nat) (hN : N ≤ 1000) : eMet l E yJ5_newLength (ws_ yJ5_newLength cJ5_newLength 4 (some .int)) ({ frames := 1, cells := 0, slots := 0, locals := 21 }) [.int (nI N), .int 1, .int (nI (N + 2))] [] (fun v Γ => v = some (.int (nI (N + (N + 2)))) ∧ Γ = []) := by
  refine eStart (cc := cJ5_newLength) (nL := 4) (L := [some (.int (nI N)), some (.int 1), some (.int (nI (N + 2))), none]) hl (by decide) rfl (List.forall_mem_cons.mpr ⟨rfl, (List.forall_mem_cons.mpr ⟨rfl, (List.forall_mem_cons.mpr ⟨rfl, (fun _ h => absurd h List.not_mem_nil)⟩)⟩)⟩) (Nat.le_of_ble_eq_true rfl) ?_
  intro x rs C
  show eZ x E (eQ x E (fun v Γ => v = some (.int (nI (N + (N + 2)))) ∧ Γ = []) rs) [rs] 0 [some (.int (nI N)), some (.int 1), some (.int (nI (N + 2))), none] [] 0 0
  generalize hQ_ : eQ x E (fun v Γ => v = some (.int (nI (N + (N + 2)))) ∧ Γ = []) rs = Q_
  refine z_iload_n C dJ5_newLength_0 rfl rfl ?_
  refine z_iload_n C dJ5_newLength_1 rfl rfl ?_
  refine z_iload_n C dJ5_newLength_2 rfl rfl ?_
  refine z_callS (As := [.int 1, .int (nI (N + 2))]) (rest := [.int (nI N)]) (Δ := [rs]) [] [0] 2 (m_Math_max hl E 1 (nI (N + 2))) C dJ5_newLength_3 rfl rfl rfl q224 q225 q58 q226 (by decide +kernel) rfl (ePm 1 rfl (by decide +kernel)) rfl rfl ⟨Nat.le_of_ble_eq_true rfl, Nat.le_of_ble_eq_true rfl⟩ (Nat.le_trans (eSm rfl eS0) (Nat.le_of_ble_eq_true rfl)) ⟨Nat.le_of_ble_eq_true rfl, Nat.le_of_ble_eq_true rfl⟩ (fun v_ Γ_ hp_ => ?_)
  obtain ⟨rfl, rfl⟩ := hp_
  show eZ x E _ [rs] 6 [some (.int (nI N)), some (.int 1), some (.int (nI (N + 2))), none] [.int (eMax 1 (nI (N + 2))), .int (nI N)] 0 0
  refine z_is (w := nI (N + 2)) (by rw [eMax, if_pos (show (1 : Int32) < nI (N + 2) from nI_lt (a := 1) (b := N + 2) (by omega) (by omega))]) ?_
  refine z_iadd (w := nI (N + (N + 2))) C dJ5_newLength_6 (nI_add _ _) ?_
  refine z_istore_n (L2 := [some (.int (nI N)), some (.int 1), some (.int (nI (N + 2))), some (.int (nI (N + (N + 2))))]) C dJ5_newLength_7 rfl (Nat.le_of_ble_eq_true rfl) rfl ?_
  refine z_iconst (v := 0) C dJ5_newLength_8 (by decide) ?_
  refine z_iload_n C dJ5_newLength_9 rfl rfl ?_
  refine z_icmp_ge 21 C dJ5_newLength_10 (by decide) (fun h_ => absurd h_ (absurd (nI_lt (a := 0) (b := N + (N + 2)) (by omega) (by omega)) (Int32.not_lt.mpr h_))) (fun h_ => ?_)
  refine z_iload_n C dJ5_newLength_13 rfl rfl ?_
  refine z_ldc C dJ5_newLength_14 rfl q227 ?_
  refine z_icmp_gt 21 C dJ5_newLength_16 (by decide) (fun h_ => absurd h_ (absurd (nI_le (a := N + (N + 2)) (b := 2147483639) (by omega) (by decide)) (Int32.not_le.mpr h_))) (fun h_ => ?_)
  refine z_iload_n C dJ5_newLength_19 rfl rfl ?_
  subst hQ_
  exact z_ret (Γ := []) C dJ5_newLength_20 rfl rfl (Nat.le_of_ble_eq_true rfl) (Nat.le_of_ble_eq_true rfl) ⟨rfl, rfl⟩

set_option maxHeartbeats 4000000 in
theorem m_SB_newCapacity {l : Launch} (hl : l.stackTraces = false) (E : eEn) (q a N : Nat) (ml : Int32) (n : Nat) (f : Nat → Int32) (hN : N ≤ 1000) : eMet l E yJ9_newCapacity (ws_ yJ9_newCapacity cJ9_newCapacity 6 (some .int)) ({ frames := 2, cells := 0, slots := 0, locals := 44 }) [.ref q, .int (nI (N + 1))] [eSB E q a N ml n f] (fun v Γ => v = some (.int (nI (N + (N + 2)))) ∧ Γ = [eSB E q a N ml n f]) := by
  refine eStart (cc := cJ9_newCapacity) (nL := 6) (L := [some (.ref q), some (.int (nI (N + 1))), none, none, none, none]) hl (by decide) rfl (List.forall_mem_cons.mpr ⟨rfl, (List.forall_mem_cons.mpr ⟨rfl, (fun _ h => absurd h List.not_mem_nil)⟩)⟩) (Nat.le_of_ble_eq_true rfl) ?_
  intro x rs C
  show eZ x E (eQ x E (fun v Γ => v = some (.int (nI (N + (N + 2)))) ∧ Γ = [eSB E q a N ml n f]) rs) [eSB E q a N ml n f, rs] 0 [some (.ref q), some (.int (nI (N + 1))), none, none, none, none] [] 0 0
  generalize hQ_ : eQ x E (fun v Γ => v = some (.int (nI (N + (N + 2)))) ∧ Γ = [eSB E q a N ml n f]) rs = Q_
  refine z_cut 0 (bs := [eO q 18 [.ref a, .int 0, .int ml, .int (nI n)], eBA E a N f]) rfl eSB_cut rfl ?_
  show eZ x E _ [eO q 18 [.ref a, .int 0, .int ml, .int (nI n)], eBA E a N f, rs] 0 [some (.ref q), some (.int (nI (N + 1))), none, none, none, none] [] 0 0
  refine z_aload_n C dJ9_newCapacity_0 rfl rfl ?_
  refine z_get eK18 0 0 C dJ9_newCapacity_1 rfl rfl q383 (eSame1 rfl) (by decide) rfl ?_
  refine z_alenb (v := nI N) 1 C dJ9_newCapacity_4 rfl rfl ?_
  refine z_istore_n (L2 := [some (.ref q), some (.int (nI (N + 1))), some (.int (nI N)), none, none, none]) C dJ9_newCapacity_5 rfl (Nat.le_of_ble_eq_true rfl) rfl ?_
  refine z_iload_n C dJ9_newCapacity_6 rfl rfl ?_
  refine z_aload_n C dJ9_newCapacity_7 rfl rfl ?_
  refine z_get eK18 0 1 C dJ9_newCapacity_8 rfl rfl q384 (eSame1 rfl) (by decide) rfl ?_
  refine z_ishl (w := nI (N + 1)) C dJ9_newCapacity_11 (by rw [show (0 : Int32) &&& 31 = 0 from by decide]; exact Int32.shiftLeft_zero) ?_
  refine z_istore_n (L2 := [some (.ref q), some (.int (nI (N + 1))), some (.int (nI N)), some (.int (nI (N + 1))), none, none]) C dJ9_newCapacity_12 rfl (Nat.le_of_ble_eq_true rfl) rfl ?_
  refine z_iload_n C dJ9_newCapacity_13 rfl rfl ?_
  refine z_iload_n C dJ9_newCapacity_14 rfl rfl ?_
  refine z_isub (w := 1) C dJ9_newCapacity_15 (by rw [← nI_1, Int32.add_comm, Int32.add_sub_cancel]) ?_
  refine z_istore (L2 := [some (.ref q), some (.int (nI (N + 1))), some (.int (nI N)), some (.int (nI (N + 1))), some (.int 1), none]) C dJ9_newCapacity_16 (Nat.le_of_ble_eq_true rfl) rfl ?_
  refine z_iload_n C dJ9_newCapacity_18 rfl rfl ?_
  refine z_iload C dJ9_newCapacity_19 rfl ?_
  refine z_iload_n C dJ9_newCapacity_21 rfl rfl ?_
  refine z_iconst (v := 2) C dJ9_newCapacity_22 (by decide) ?_
  refine z_aload_n C dJ9_newCapacity_23 rfl rfl ?_
  refine z_get eK18 0 1 C dJ9_newCapacity_24 rfl rfl q384 (eSame1 rfl) (by decide) rfl ?_
  refine z_ishl (w := 2) C dJ9_newCapacity_27 (by decide) ?_
  refine z_iadd (w := nI (N + 2)) C dJ9_newCapacity_28 (nI_add N 2) ?_
  refine z_callS (As := [.int (nI N), .int 1, .int (nI (N + 2))]) (rest := []) (Δ := [eO q 18 [.ref a, .int 0, .int ml, .int (nI n)], eBA E a N f, rs]) [] [0, 1, 2] 3 (m_newLength hl E N hN) C dJ9_newCapacity_29 rfl rfl rfl q637 q222 q57 q223 (by decide +kernel) rfl (ePm 3 rfl (by decide +kernel)) rfl rfl ⟨Nat.le_of_ble_eq_true rfl, Nat.le_of_ble_eq_true rfl⟩ (Nat.le_trans eS0 (Nat.le_of_ble_eq_true rfl)) ⟨Nat.le_of_ble_eq_true rfl, Nat.le_of_ble_eq_true rfl⟩ (fun v_ Γ_ hp_ => ?_)
  obtain ⟨rfl, rfl⟩ := hp_
  show eZ x E _ [eO q 18 [.ref a, .int 0, .int ml, .int (nI n)], eBA E a N f, rs] 32 [some (.ref q), some (.int (nI (N + 1))), some (.int (nI N)), some (.int (nI (N + 1))), some (.int 1), none] [.int (nI (N + (N + 2)))] 0 0
  refine z_istore (L2 := [some (.ref q), some (.int (nI (N + 1))), some (.int (nI N)), some (.int (nI (N + 1))), some (.int 1), some (.int (nI (N + (N + 2))))]) C dJ9_newCapacity_32 (Nat.le_of_ble_eq_true rfl) rfl ?_
  refine z_iload C dJ9_newCapacity_34 rfl ?_
  refine z_ldc C dJ9_newCapacity_36 rfl q638 ?_
  refine z_icmp_ne 51 C dJ9_newCapacity_38 (by decide) (fun h_ => ?_) (fun h_ => absurd h_ (absurd ((nI_eq (a := N + (N + 2)) (b := 2147483647) (by omega) (by decide)).mp h_) (by omega)))
  refine z_iload C dJ9_newCapacity_51 rfl ?_
  refine z_aload_n C dJ9_newCapacity_53 rfl rfl ?_
  refine z_get eK18 0 1 C dJ9_newCapacity_54 rfl rfl q384 (eSame1 rfl) (by decide) rfl ?_
  refine z_ishr (w := nI (N + (N + 2))) C dJ9_newCapacity_57 (by rw [show (0 : Int32) &&& 31 = 0 from by decide]; exact Int32.shiftRight_zero) ?_
  refine z_join 2 (b := eSB E q a N ml n f) eSB_cut.symm rfl ?_
  show eZ x E _ [eSB E q a N ml n f, rs] 58 [some (.ref q), some (.int (nI (N + 1))), some (.int (nI N)), some (.int (nI (N + 1))), some (.int 1), some (.int (nI (N + (N + 2))))] [.int (nI (N + (N + 2)))] 0 0
  subst hQ_
  exact z_ret (Γ := [eSB E q a N ml n f]) C dJ9_newCapacity_58 rfl rfl (Nat.le_of_ble_eq_true rfl) (Nat.le_of_ble_eq_true rfl) ⟨rfl, rfl⟩

set_option maxHeartbeats 4000000 in
theorem m_copyOfB {l : Launch} (hl : l.stackTraces = false) (E : eEn) (a N : Nat) (f : Nat → Int32) (hN : N ≤ 1000) (hf : ∀ k, k < N → fits .byte (.int (f k)) = true) : eMet l E yJ7_copyOf_3 (ws_ yJ7_copyOf_3 cJ7_copyOf_3 3 (some (.array .byte))) ({ frames := 1, cells := 1, slots := N + (N + 2), locals := 60 }) [.ref a, .int (nI (N + (N + 2)))] [eBA E a N f] (fun v Γ => ∃ a2, v = some (.ref a2) ∧ Γ = [eBA E a N f, eBA E a2 (N + (N + 2)) (fun k => if k < N then f k else 0)]) := by
  refine eStart (cc := cJ7_copyOf_3) (nL := 3) (L := [some (.ref a), some (.int (nI (N + (N + 2)))), none]) hl (by decide) rfl (List.forall_mem_cons.mpr ⟨rfl, (List.forall_mem_cons.mpr ⟨rfl, (fun _ h => absurd h List.not_mem_nil)⟩)⟩) (Nat.le_of_ble_eq_true rfl) ?_
  intro x rs C
  show eZ x E (eQ x E (fun v Γ => ∃ a2, v = some (.ref a2) ∧ Γ = [eBA E a N f, eBA E a2 (N + (N + 2)) (fun k => if k < N then f k else 0)]) rs) [eBA E a N f, rs] 0 [some (.ref a), some (.int (nI (N + (N + 2)))), none] [] 0 0
  generalize hQ_ : eQ x E (fun v Γ => ∃ a2, v = some (.ref a2) ∧ Γ = [eBA E a N f, eBA E a2 (N + (N + 2)) (fun k => if k < N then f k else 0)]) rs = Q_
  refine z_iload_n C dJ7_copyOf_3_0 rfl rfl ?_
  refine z_aload_n C dJ7_copyOf_3_1 rfl rfl ?_
  refine z_alenb (v := nI N) 0 C dJ7_copyOf_3_2 rfl rfl ?_
  refine z_icmp_ne 14 C dJ7_copyOf_3_3 (by decide) (fun h_ => ?_) (fun h_ => absurd h_ (absurd ((nI_eq (by omega) (by omega)).mp h_) (by omega)))
  refine z_iload_n C dJ7_copyOf_3_14 rfl rfl ?_
  refine z_newB (m := (N + (N + 2))) C dJ7_copyOf_3_15 rfl (by omega) (by show _ ≤ 1; omega) (by show 0 + (N + (N + 2)) ≤ N + (N + 2); omega) (fun a1 => ?_)
  show eZ x E _ [eBA E a N f, rs, eBA E a1 (N + (N + 2)) (fun _ => 0)] 17 [some (.ref a), some (.int (nI (N + (N + 2)))), none] [.ref a1] 1 (0 + (N + (N + 2)))
  refine z_astore_n (L2 := [some (.ref a), some (.int (nI (N + (N + 2)))), some (.ref a1)]) C dJ7_copyOf_3_17 rfl (Nat.le_of_ble_eq_true rfl) rfl ?_
  refine z_aload_n C dJ7_copyOf_3_18 rfl rfl ?_
  refine z_iconst (v := 0) C dJ7_copyOf_3_19 (by decide) ?_
  refine z_aload_n C dJ7_copyOf_3_20 rfl rfl ?_
  refine z_iconst (v := 0) C dJ7_copyOf_3_21 (by decide) ?_
  refine z_aload_n C dJ7_copyOf_3_22 rfl rfl ?_
  refine z_alenb (v := nI N) 0 C dJ7_copyOf_3_23 rfl rfl ?_
  refine z_iload_n C dJ7_copyOf_3_24 rfl rfl ?_
  refine z_callS (As := [.int (nI N), .int (nI (N + (N + 2)))]) (rest := [.int 0, .ref a1, .int 0, .ref a]) (Δ := [eBA E a N f, rs, eBA E a1 (N + (N + 2)) (fun _ => 0)]) [] [0, 1, 2] 2 (m_Math_min hl E (nI N) (nI (N + (N + 2)))) C dJ7_copyOf_3_25 rfl rfl rfl q267 q268 q58 q269 (by decide +kernel) rfl (ePm 3 rfl (by decide +kernel)) rfl rfl ⟨Nat.le_of_ble_eq_true rfl, Nat.le_of_ble_eq_true rfl⟩ (Nat.le_trans (eSm rfl (eSm rfl (eSm rfl (eSm rfl eS0)))) (Nat.le_of_ble_eq_true rfl)) ⟨by first | omega | (dsimp only; omega), by first | omega | (dsimp only; omega)⟩ (fun v_ Γ_ hp_ => ?_)
  obtain ⟨rfl, rfl⟩ := hp_
  show eZ x E _ [eBA E a N f, rs, eBA E a1 (N + (N + 2)) (fun _ => 0)] 28 [some (.ref a), some (.int (nI (N + (N + 2)))), some (.ref a1)] [.int (eMin (nI N) (nI (N + (N + 2)))), .int 0, .ref a1, .int 0, .ref a] 1 (0 + (N + (N + 2)))
  refine z_is (w := nI N) (by rw [eMin, if_neg (Int32.not_lt.mpr (nI_le (a := N) (b := N + (N + 2)) (by omega) (by omega)))]) ?_
  refine z_copyB (N := N) (Γ2 := [eBA E a N f, rs, eBA E a1 (N + (N + 2)) (fun k => if k < N then f k else 0)]) 0 2 C rfl dJ7_copyOf_3_28 rfl rfl rfl rfl (Nat.le_refl _) (by omega) (by omega) (fun k hk => hf k hk) rfl (Nat.le_of_ble_eq_true rfl) (Nat.le_of_ble_eq_true rfl) ?_
  show eZ x E _ [eBA E a N f, rs, eBA E a1 (N + (N + 2)) (fun k => if k < N then f k else 0)] 31 [some (.ref a), some (.int (nI (N + (N + 2)))), some (.ref a1)] [] 1 (0 + (N + (N + 2)))
  refine z_aload_n C dJ7_copyOf_3_31 rfl rfl ?_
  refine z_pick (Γ' := [eBA E a N f, eBA E a1 (N + (N + 2)) (fun k => if k < N then f k else 0), rs]) [0, 2, 1] (ePm 3 rfl (by decide +kernel)) rfl ?_
  subst hQ_
  exact z_aret (Γ := [eBA E a N f, eBA E a1 (N + (N + 2)) (fun k => if k < N then f k else 0)]) C dJ7_copyOf_3_32 rfl (Or.inr ⟨_, rfl⟩) (Or.inr ⟨_, rfl⟩) (by show _ ≤ 1; omega) (by show _ ≤ N + (N + 2); omega) ⟨a1, rfl, rfl⟩

theorem eSubLe {m N : Nat} (h : m ≤ N) (hN : N ≤ 1000) : nI m - nI N ≤ 0 := by
  have h1 : nI N = nI m + nI (N - m) := by rw [nI_add, show m + (N - m) = N by omega]
  have h2 : nI m - nI N = -(nI (N - m)) := by rw [h1, Int32.sub_eq_add_neg, Int32.neg_add, Int32.sub_eq_add_neg, ← Int32.add_assoc, ← Int32.sub_eq_add_neg (nI m) (nI m), Int32.sub_self, Int32.zero_add]
  rw [h2]
  have h3 : ∀ k : Nat, k ≤ 1000 → -(nI k) ≤ 0 := by decide +kernel
  exact h3 _ (by omega)

set_option maxHeartbeats 4000000 in
theorem m_SB_ensure {l : Launch} (hl : l.stackTraces = false) (E : eEn) (q a N : Nat) (ml : Int32) (n : Nat) (f : Nat → Int32) (hN : N ≤ 1000) (hn : n ≤ N) (m : Nat) (hm : m ≤ N + 1) (hf : ∀ k, k < N → fits .byte (.int (f k)) = true) : eMet l E yJ9_ensureCapacityInternal (ws_ yJ9_ensureCapacityInternal cJ9_ensureCapacityInternal 3 none) ({ frames := 3, cells := 1, slots := N + (N + 2), locals := 82 }) [.ref q, .int (nI m)] [eSB E q a N ml n f] (fun v Γ => v = none ∧ ∃ a2 N2 f2, Γ = [eSB E q a2 N2 ml n f2] ∧ m ≤ N2 ∧ (N2 ≤ N + (N + 2) ∧ (N2 = N ∨ N < m)) ∧ (∀ i, i < n → f2 i = f i) ∧ ∀ k, k < N2 → fits .byte (.int (f2 k)) = true) := by
  refine eStart (cc := cJ9_ensureCapacityInternal) (nL := 3) (L := [some (.ref q), some (.int (nI m)), none]) hl (by decide) rfl (List.forall_mem_cons.mpr ⟨rfl, (List.forall_mem_cons.mpr ⟨rfl, (fun _ h => absurd h List.not_mem_nil)⟩)⟩) (Nat.le_of_ble_eq_true rfl) ?_
  intro x rs C
  show eZ x E (eQ x E (fun v Γ => v = none ∧ ∃ a2 N2 f2, Γ = [eSB E q a2 N2 ml n f2] ∧ m ≤ N2 ∧ (N2 ≤ N + (N + 2) ∧ (N2 = N ∨ N < m)) ∧ (∀ i, i < n → f2 i = f i) ∧ ∀ k, k < N2 → fits .byte (.int (f2 k)) = true) rs) [eSB E q a N ml n f, rs] 0 [some (.ref q), some (.int (nI m)), none] [] 0 0
  generalize hQ_ : eQ x E (fun v Γ => v = none ∧ ∃ a2 N2 f2, Γ = [eSB E q a2 N2 ml n f2] ∧ m ≤ N2 ∧ (N2 ≤ N + (N + 2) ∧ (N2 = N ∨ N < m)) ∧ (∀ i, i < n → f2 i = f i) ∧ ∀ k, k < N2 → fits .byte (.int (f2 k)) = true) rs = Q_
  have hsh : nI N >>> ((0 : Int32) &&& 31) = nI N := by rw [show (0 : Int32) &&& 31 = 0 from by decide]; exact Int32.shiftRight_zero
  refine z_cut 0 (bs := [eO q 18 [.ref a, .int 0, .int ml, .int (nI n)], eBA E a N f]) rfl eSB_cut rfl ?_
  show eZ x E _ [eO q 18 [.ref a, .int 0, .int ml, .int (nI n)], eBA E a N f, rs] 0 [some (.ref q), some (.int (nI m)), none] [] 0 0
  refine z_aload_n C dJ9_ensureCapacityInternal_0 rfl rfl ?_
  refine z_get eK18 0 0 C dJ9_ensureCapacityInternal_1 rfl rfl q383 (eSame1 rfl) (by decide) rfl ?_
  refine z_alenb (v := nI N) 1 C dJ9_ensureCapacityInternal_4 rfl rfl ?_
  refine z_aload_n C dJ9_ensureCapacityInternal_5 rfl rfl ?_
  refine z_get eK18 0 1 C dJ9_ensureCapacityInternal_6 rfl rfl q384 (eSame1 rfl) (by decide) rfl ?_
  refine z_ishr (w := nI N) C dJ9_ensureCapacityInternal_9 hsh ?_
  refine z_istore_n (L2 := [some (.ref q), some (.int (nI m)), some (.int (nI N))]) C dJ9_ensureCapacityInternal_10 rfl (Nat.le_of_ble_eq_true rfl) rfl ?_
  refine z_iload_n C dJ9_ensureCapacityInternal_11 rfl rfl ?_
  refine z_iload_n C dJ9_ensureCapacityInternal_12 rfl rfl ?_
  refine z_isub (w := (nI m) - (nI N)) C dJ9_ensureCapacityInternal_13 rfl ?_
  refine z_if_le 38 C dJ9_ensureCapacityInternal_14 (by decide) (fun h1 => ?_) (fun h1 => ?_)
  · refine z_join 2 (b := eSB E q a N ml n f) eSB_cut.symm rfl ?_
    show eZ x E _ [eSB E q a N ml n f, rs] 38 [some (.ref q), some (.int (nI m)), some (.int (nI N))] [] 0 0
    subst hQ_
    exact z_vret (Γ := [eSB E q a N ml n f]) C dJ9_ensureCapacityInternal_38 rfl (by show _ ≤ 1; omega) (by show _ ≤ N + (N + 2); omega) ⟨rfl, a, N, f, rfl, by rcases Nat.lt_or_ge N m with h | h; exact absurd h1 (by rw [show m = N + 1 by omega, ← nI_1, Int32.add_comm, Int32.add_sub_cancel]; decide); exact h, ⟨by omega, Or.inl rfl⟩, fun i _ => rfl, hf⟩
  · have hm1 : m = N + 1 := by
      rcases Nat.lt_or_ge N m with h | h
      · omega
      · exact absurd (eSubLe h (by omega)) h1
    subst hm1
    refine z_aload_n C dJ9_ensureCapacityInternal_17 rfl rfl ?_
    refine z_aload_n C dJ9_ensureCapacityInternal_18 rfl rfl ?_
    refine z_get eK18 0 0 C dJ9_ensureCapacityInternal_19 rfl rfl q383 (eSame1 rfl) (by decide) rfl ?_
    refine z_aload_n C dJ9_ensureCapacityInternal_22 rfl rfl ?_
    refine z_iload_n C dJ9_ensureCapacityInternal_23 rfl rfl ?_
    refine z_join 2 (b := eSB E q a N ml n f) eSB_cut.symm rfl ?_
    show eZ x E _ [eSB E q a N ml n f, rs] 24 [some (.ref q), some (.int (nI (N + 1))), some (.int (nI N))] [.int (nI (N + 1)), .ref q, .ref a, .ref q] 0 0
    refine z_callP (r := (RJ10, TJ10, 4)) (As := [.int (nI (N + 1))]) (rest := [.ref a, .ref q]) (Δ := [rs]) [0] [1] 1 (m_SB_newCapacity hl E q a N ml n f hN) C dJ9_ensureCapacityInternal_24 rfl rfl (eIn (i := 0) rfl eSB_mem) rfl rfl rfl q633 q635 q634 q649 q63 q636 (by decide +kernel) rfl (ePm 2 rfl (by decide +kernel)) rfl rfl ⟨Nat.le_of_ble_eq_true rfl, Nat.le_of_ble_eq_true rfl⟩ (Nat.le_trans (eSm rfl (eSm rfl eS0)) (Nat.le_of_ble_eq_true rfl)) ⟨by first | omega | (dsimp only; omega), by first | omega | (dsimp only; omega)⟩ (fun v_ Γ_ hp_ => ?_)
    obtain ⟨rfl, rfl⟩ := hp_
    show eZ x E _ [eSB E q a N ml n f, rs] 27 [some (.ref q), some (.int (nI (N + 1))), some (.int (nI N))] [.int (nI (N + (N + 2))), .ref a, .ref q] 0 0
    refine z_cut 0 (bs := [eO q 18 [.ref a, .int 0, .int ml, .int (nI n)], eBA E a N f]) rfl eSB_cut rfl ?_
    show eZ x E _ [eO q 18 [.ref a, .int 0, .int ml, .int (nI n)], eBA E a N f, rs] 27 [some (.ref q), some (.int (nI (N + 1))), some (.int (nI N))] [.int (nI (N + (N + 2))), .ref a, .ref q] 0 0
    refine z_aload_n C dJ9_ensureCapacityInternal_27 rfl rfl ?_
    refine z_get eK18 0 1 C dJ9_ensureCapacityInternal_28 rfl rfl q384 (eSame1 rfl) (by decide) rfl ?_
    refine z_ishl (w := nI (N + (N + 2))) C dJ9_ensureCapacityInternal_31 (by rw [show (0 : Int32) &&& 31 = 0 from by decide]; exact Int32.shiftLeft_zero) ?_
    refine z_callS (As := [.ref a, .int (nI (N + (N + 2)))]) (rest := [.ref q]) (Δ := [eO q 18 [.ref a, .int 0, .int ml, .int (nI n)], rs]) [1] [0, 2] 2 (m_copyOfB hl E a N f hN hf) C dJ9_ensureCapacityInternal_32 rfl rfl rfl q639 q640 q59 q641 (by decide +kernel) rfl (ePm 3 rfl (by decide +kernel)) rfl rfl ⟨Nat.le_of_ble_eq_true rfl, Nat.le_of_ble_eq_true rfl⟩ (Nat.le_trans (eSm rfl eS0) (Nat.le_of_ble_eq_true rfl)) ⟨by first | omega | (dsimp only; omega), by first | omega | (dsimp only; omega)⟩ (fun v_ Γ_ hp_ => ?_)
    obtain ⟨a2, rfl, rfl⟩ := hp_
    show eZ x E _ [eBA E a N f, eBA E a2 (N + (N + 2)) (fun k => if k < N then f k else 0), eO q 18 [.ref a, .int 0, .int ml, .int (nI n)], rs] 35 [some (.ref q), some (.int (nI (N + 1))), some (.int (nI N))] [.ref a2, .ref q] 1 (0 + (N + (N + 2)))
    refine z_put eK18 2 0 (Γ2 := [eBA E a N f, eBA E a2 (N + (N + 2)) (fun k => if k < N then f k else 0), eO q 18 [.ref a2, .int 0, .int ml, .int (nI n)], rs]) C dJ9_ensureCapacityInternal_35 rfl rfl q383 (eSame1 rfl) (by decide) rfl rfl rfl rfl (Nat.le_of_ble_eq_true rfl) rfl ?_
    refine z_pick (Γ' := [eO q 18 [.ref a2, .int 0, .int ml, .int (nI n)], eBA E a2 (N + (N + 2)) (fun k => if k < N then f k else 0), eBA E a N f, rs]) [2, 1, 0, 3] (ePm 4 rfl (by decide +kernel)) rfl ?_
    refine z_join 2 (b := eSB E q a2 (N + (N + 2)) ml n (fun k => if k < N then f k else 0)) eSB_cut.symm rfl ?_
    show eZ x E _ [eSB E q a2 (N + (N + 2)) ml n (fun k => if k < N then f k else 0), eBA E a N f, rs] 38 [some (.ref q), some (.int (nI (N + 1))), some (.int (nI N))] [] 1 (0 + (N + (N + 2)))
    refine z_pick (Γ' := [eBA E a N f, eSB E q a2 (N + (N + 2)) ml n (fun k => if k < N then f k else 0), rs]) [1, 0, 2] (ePm 3 rfl (by decide +kernel)) rfl ?_
    refine z_drop ?_
    show eZ x E _ [eSB E q a2 (N + (N + 2)) ml n (fun k => if k < N then f k else 0), rs] 38 [some (.ref q), some (.int (nI (N + 1))), some (.int (nI N))] [] 1 (0 + (N + (N + 2)))
    subst hQ_
    exact z_vret (Γ := [eSB E q a2 (N + (N + 2)) ml n (fun k => if k < N then f k else 0)]) C dJ9_ensureCapacityInternal_38 rfl (by show _ ≤ 1; (try dsimp only); omega) (by show _ ≤ N + (N + 2); (try dsimp only); omega) ⟨rfl, a2, N + (N + 2), _, rfl, by omega, ⟨by omega, Or.inr (by omega)⟩, fun i hi => if_pos (by omega), fun k hk => by by_cases h : k < N; rw [if_pos h]; exact hf k h; rw [if_neg h]; rfl⟩

theorem eFitB : ∀ k : Nat, k < 128 → fits .byte (.int (nI k)) = true := by decide +kernel

set_option maxHeartbeats 4000000 in
theorem m_canEncode {l : Launch} (hl : l.stackTraces = false) (E : eEn) (c : Nat) (hc : c < 128) : eMet l E yJ20_canEncode (ws_ yJ20_canEncode cJ20_canEncode 1 (some .boolean)) ({ frames := 0, cells := 0, slots := 0, locals := 0 }) [.int (nI c)] [] (fun v Γ => v = some (.int 1) ∧ Γ = []) := by
  refine eStart (cc := cJ20_canEncode) (nL := 1) (L := [some (.int (nI c))]) hl (by decide) rfl (List.forall_mem_cons.mpr ⟨rfl, (fun _ h => absurd h List.not_mem_nil)⟩) (Nat.le_of_ble_eq_true rfl) ?_
  intro x rs C
  show eZ x E (eQ x E (fun v Γ => v = some (.int 1) ∧ Γ = []) rs) [rs] 0 [some (.int (nI c))] [] 0 0
  generalize hQ_ : eQ x E (fun v Γ => v = some (.int 1) ∧ Γ = []) rs = Q_
  refine z_iload_n C dJ20_canEncode_0 rfl rfl ?_
  refine z_sipush (v := 255) C dJ20_canEncode_1 (by decide) ?_
  refine z_icmp_gt 11 C dJ20_canEncode_4 (by decide) (fun h_ => absurd h_ (absurd h_ (Int32.not_lt.mpr (nI_le (a := c) (b := 255) (by omega) (by decide))))) (fun h_ => ?_)
  refine z_iconst (v := 1) C dJ20_canEncode_7 (by decide) ?_
  refine z_goto 12 C dJ20_canEncode_8 (by decide) ?_
  subst hQ_
  exact z_ret (Γ := []) C dJ20_canEncode_12 rfl (by decide) (Nat.le_of_ble_eq_true rfl) (Nat.le_of_ble_eq_true rfl) ⟨rfl, rfl⟩

set_option maxHeartbeats 4000000 in
theorem m_SB_append2 {l : Launch} (hl : l.stackTraces = false) (E : eEn) (q a N : Nat) (ml : Int32) (n : Nat) (f : Nat → Int32) (hN : N ≤ 1000) (hn : n ≤ N) (hf : ∀ k, k < N → fits .byte (.int (f k)) = true) (c : Nat) (hc : c < 128) : eMet l E yJ9_append_2 (ws_ yJ9_append_2 cJ9_append_2 2 (some (.object "java/lang/AbstractStringBuilder"))) ({ frames := 4, cells := 1, slots := N + (N + 2), locals := 104 }) [.ref q, .int (nI c)] [eSB E q a N ml n f] (fun v Γ => v = some (.ref q) ∧ ∃ a2 N2 f2, Γ = [eSB E q a2 N2 ml (n + 1) f2] ∧ n + 1 ≤ N2 ∧ (N2 ≤ N + (N + 2) ∧ (N2 = N ∨ N < n + 1)) ∧ f2 n = nI c ∧ (∀ i, i < n → f2 i = f i) ∧ ∀ k, k < N2 → fits .byte (.int (f2 k)) = true) := by
  refine eStart (cc := cJ9_append_2) (nL := 2) (L := [some (.ref q), some (.int (nI c))]) hl (by decide) rfl (List.forall_mem_cons.mpr ⟨rfl, (List.forall_mem_cons.mpr ⟨rfl, (fun _ h => absurd h List.not_mem_nil)⟩)⟩) (Nat.le_of_ble_eq_true rfl) ?_
  intro x rs C
  show eZ x E (eQ x E (fun v Γ => v = some (.ref q) ∧ ∃ a2 N2 f2, Γ = [eSB E q a2 N2 ml (n + 1) f2] ∧ n + 1 ≤ N2 ∧ (N2 ≤ N + (N + 2) ∧ (N2 = N ∨ N < n + 1)) ∧ f2 n = nI c ∧ (∀ i, i < n → f2 i = f i) ∧ ∀ k, k < N2 → fits .byte (.int (f2 k)) = true) rs) [eSB E q a N ml n f, rs] 0 [some (.ref q), some (.int (nI c))] [] 0 0
  generalize hQ_ : eQ x E (fun v Γ => v = some (.ref q) ∧ ∃ a2 N2 f2, Γ = [eSB E q a2 N2 ml (n + 1) f2] ∧ n + 1 ≤ N2 ∧ (N2 ≤ N + (N + 2) ∧ (N2 = N ∨ N < n + 1)) ∧ f2 n = nI c ∧ (∀ i, i < n → f2 i = f i) ∧ ∀ k, k < N2 → fits .byte (.int (f2 k)) = true) rs = Q_
  refine z_cut 0 (bs := [eO q 18 [.ref a, .int 0, .int ml, .int (nI n)], eBA E a N f]) rfl eSB_cut rfl ?_
  show eZ x E _ [eO q 18 [.ref a, .int 0, .int ml, .int (nI n)], eBA E a N f, rs] 0 [some (.ref q), some (.int (nI c))] [] 0 0
  refine z_aload_n C dJ9_append_2_0 rfl rfl ?_
  refine z_aload_n C dJ9_append_2_1 rfl rfl ?_
  refine z_get eK18 0 3 C dJ9_append_2_2 rfl rfl q387 (eSame1 rfl) (by decide) rfl ?_
  refine z_iconst (v := 1) C dJ9_append_2_5 (by decide) ?_
  refine z_iadd (w := nI (n + 1)) C dJ9_append_2_6 (nI_1 n) ?_
  refine z_join 2 (b := eSB E q a N ml n f) eSB_cut.symm rfl ?_
  show eZ x E _ [eSB E q a N ml n f, rs] 7 [some (.ref q), some (.int (nI c))] [.int (nI (n + 1)), .ref q] 0 0
  refine z_callP (r := (RJ10, TJ10, 4)) (As := [.int (nI (n + 1))]) (rest := []) (Δ := [rs]) [0] [1] 1 (m_SB_ensure hl E q a N ml n f hN hn (n + 1) (by omega) hf) C dJ9_append_2_7 rfl rfl (eIn (i := 0) rfl eSB_mem) rfl rfl rfl q629 q631 q630 q649 q63 q632 (by decide +kernel) rfl (ePm 2 rfl (by decide +kernel)) rfl rfl ⟨Nat.le_of_ble_eq_true rfl, Nat.le_of_ble_eq_true rfl⟩ (Nat.le_trans eS0 (Nat.le_of_ble_eq_true rfl)) ⟨by show _ ≤ 1; (try dsimp only); omega, by show _ ≤ N + (N + 2); (try dsimp only); omega⟩ (fun v_ Γ_ hp_ => ?_)
  obtain ⟨rfl, a2, N2, f2, rfl, hN2, hN3, he, hf2⟩ := hp_
  show eZ x E _ [eSB E q a2 N2 ml n f2, rs] 10 [some (.ref q), some (.int (nI c))] [] 1 (0 + (N + (N + 2)))
  refine z_aload_n C dJ9_append_2_10 rfl rfl ?_
  refine z_callU (r := (RJ10, TJ10, 4)) (As := []) (rest := []) (Δ := [rs]) [0] [1] 0 (m_SB_isLatin1 hl E q a2 N2 ml n f2) C dJ9_append_2_11 rfl rfl (eIn (i := 0) rfl eSB_mem) rfl rfl (eCU (owner := "java/lang/AbstractStringBuilder") q647 q649 q650 q648 q63 q651 rfl (by decide +kernel)) rfl (ePm 2 rfl (by decide +kernel)) rfl rfl ⟨Nat.le_of_ble_eq_true rfl, Nat.le_of_ble_eq_true rfl⟩ (Nat.le_trans eS0 (Nat.le_of_ble_eq_true rfl)) ⟨by show _ ≤ 1; (try dsimp only); omega, by show _ ≤ N + (N + 2); (try dsimp only); omega⟩ (fun v_ Γ_ hp_ => ?_)
  obtain ⟨rfl, rfl⟩ := hp_
  show eZ x E _ [eSB E q a2 N2 ml n f2, rs] 14 [some (.ref q), some (.int (nI c))] [.int 1] 1 (0 + (N + (N + 2)))
  refine z_if_eq 45 C dJ9_append_2_14 (by decide) (fun h_ => absurd h_ (by decide)) (fun h_ => ?_)
  refine z_iload_n C dJ9_append_2_17 rfl rfl ?_
  refine z_callS (As := [.int (nI c)]) (rest := []) (Δ := [eSB E q a2 N2 ml n f2, rs]) [] [0, 1] 1 (m_canEncode hl E c hc) C dJ9_append_2_18 rfl rfl rfl q1490 q1491 q75 q1492 (by decide +kernel) rfl (ePm 2 rfl (by decide +kernel)) rfl rfl ⟨Nat.le_of_ble_eq_true rfl, Nat.le_of_ble_eq_true rfl⟩ (Nat.le_trans eS0 (Nat.le_of_ble_eq_true rfl)) ⟨by show _ ≤ 1; (try dsimp only); omega, by show _ ≤ N + (N + 2); (try dsimp only); omega⟩ (fun v_ Γ_ hp_ => ?_)
  obtain ⟨rfl, rfl⟩ := hp_
  show eZ x E _ [eSB E q a2 N2 ml n f2, rs] 21 [some (.ref q), some (.int (nI c))] [.int 1] 1 (0 + (N + (N + 2)))
  refine z_if_eq 45 C dJ9_append_2_21 (by decide) (fun h_ => absurd h_ (by decide)) (fun h_ => ?_)
  refine z_cut 0 (bs := [eO q 18 [.ref a2, .int 0, .int ml, .int (nI n)], eBA E a2 N2 f2]) rfl eSB_cut rfl ?_
  show eZ x E _ [eO q 18 [.ref a2, .int 0, .int ml, .int (nI n)], eBA E a2 N2 f2, rs] 24 [some (.ref q), some (.int (nI c))] [] 1 (0 + (N + (N + 2)))
  refine z_aload_n C dJ9_append_2_24 rfl rfl ?_
  refine z_get eK18 0 0 C dJ9_append_2_25 rfl rfl q383 (eSame1 rfl) (by decide) rfl ?_
  refine z_aload_n C dJ9_append_2_28 rfl rfl ?_
  refine z_dup C dJ9_append_2_29 rfl ?_
  refine z_get eK18 0 3 C dJ9_append_2_30 rfl rfl q387 (eSame1 rfl) (by decide) rfl ?_
  refine z_dup_x1 C dJ9_append_2_33 rfl rfl ?_
  refine z_iconst (v := 1) C dJ9_append_2_34 (by decide) ?_
  refine z_iadd (w := nI (n + 1)) C dJ9_append_2_35 (nI_1 n) ?_
  refine z_put eK18 0 3 (Γ2 := [eO q 18 [.ref a2, .int 0, .int ml, .int (nI (n + 1))], eBA E a2 N2 f2, rs]) C dJ9_append_2_36 rfl rfl q387 (eSame1 rfl) (by decide) rfl rfl rfl rfl (Nat.le_of_ble_eq_true rfl) rfl ?_
  refine z_iload_n C dJ9_append_2_39 rfl rfl ?_
  refine z_i2b (v := nI c) C dJ9_append_2_40 (eI2b c hc).symm ?_
  refine z_bast (m := n) (w := nI c) (Γ2 := [eO q 18 [.ref a2, .int 0, .int ml, .int (nI (n + 1))], eBA E a2 N2 (upd f2 n (nI c)), rs]) 1 C dJ9_append_2_41 rfl rfl (by omega) (by omega) (eNarB c hc).symm rfl ?_
  refine z_goto 75 C dJ9_append_2_42 (by decide) ?_
  refine z_aload_n C dJ9_append_2_75 rfl rfl ?_
  refine z_pick (Γ' := [eO q 18 [.ref a2, .int 0, .int ml, .int (nI (n + 1))], eBA E a2 N2 (upd f2 n (nI c)), rs]) [0, 1, 2] (ePm 3 rfl (by decide +kernel)) rfl ?_
  refine z_join 2 (b := eSB E q a2 N2 ml (n + 1) (upd f2 n (nI c))) eSB_cut.symm rfl ?_
  show eZ x E _ [eSB E q a2 N2 ml (n + 1) (upd f2 n (nI c)), rs] 76 [some (.ref q), some (.int (nI c))] [.ref q] 1 (0 + (N + (N + 2)))
  subst hQ_
  exact z_aret (Γ := [eSB E q a2 N2 ml (n + 1) (upd f2 n (nI c))]) C dJ9_append_2_76 rfl (Or.inl ⟨_, rfl⟩) (Or.inr ⟨_, rfl⟩) (by show _ ≤ 1; (try dsimp only); omega) (by show _ ≤ N + (N + 2); (try dsimp only); omega) ⟨rfl, a2, N2, _, rfl, hN2, hN3, by simp [upd], fun i hi => by rw [show upd f2 n (nI c) i = f2 i from by simp [upd, Nat.ne_of_lt hi]]; exact he i hi, fun k hk => by by_cases h : k = n; rw [h, show upd f2 n (nI c) n = nI c from by simp [upd]]; exact eFitB c hc; rw [show upd f2 n (nI c) k = f2 k from by simp [upd, h]]; exact hf2 k hk⟩

set_option maxHeartbeats 4000000 in
theorem m_SB_append {l : Launch} (hl : l.stackTraces = false) (E : eEn) (q a N : Nat) (ml : Int32) (n : Nat) (f : Nat → Int32) (hN : N ≤ 1000) (hn : n ≤ N) (hf : ∀ k, k < N → fits .byte (.int (f k)) = true) (c : Nat) (hc : c < 128) : eMet l E yJ10_append_2 (ws_ yJ10_append_2 cJ10_append_2 2 (some (.object "java/lang/StringBuilder"))) ({ frames := 5, cells := 1, slots := N + (N + 2), locals := 125 }) [.ref q, .int (nI c)] [eSB E q a N ml n f] (fun v Γ => v = some (.ref q) ∧ ∃ a2 N2 f2, Γ = [eSB E q a2 N2 ml (n + 1) f2] ∧ n + 1 ≤ N2 ∧ (N2 ≤ N + (N + 2) ∧ (N2 = N ∨ N < n + 1)) ∧ f2 n = nI c ∧ (∀ i, i < n → f2 i = f i) ∧ ∀ k, k < N2 → fits .byte (.int (f2 k)) = true) := by
  refine eStart (cc := cJ10_append_2) (nL := 2) (L := [some (.ref q), some (.int (nI c))]) hl (by decide) rfl (List.forall_mem_cons.mpr ⟨rfl, (List.forall_mem_cons.mpr ⟨rfl, (fun _ h => absurd h List.not_mem_nil)⟩)⟩) (Nat.le_of_ble_eq_true rfl) ?_
  intro x rs C
  show eZ x E (eQ x E (fun v Γ => v = some (.ref q) ∧ ∃ a2 N2 f2, Γ = [eSB E q a2 N2 ml (n + 1) f2] ∧ n + 1 ≤ N2 ∧ (N2 ≤ N + (N + 2) ∧ (N2 = N ∨ N < n + 1)) ∧ f2 n = nI c ∧ (∀ i, i < n → f2 i = f i) ∧ ∀ k, k < N2 → fits .byte (.int (f2 k)) = true) rs) [eSB E q a N ml n f, rs] 0 [some (.ref q), some (.int (nI c))] [] 0 0
  generalize hQ_ : eQ x E (fun v Γ => v = some (.ref q) ∧ ∃ a2 N2 f2, Γ = [eSB E q a2 N2 ml (n + 1) f2] ∧ n + 1 ≤ N2 ∧ (N2 ≤ N + (N + 2) ∧ (N2 = N ∨ N < n + 1)) ∧ f2 n = nI c ∧ (∀ i, i < n → f2 i = f i) ∧ ∀ k, k < N2 → fits .byte (.int (f2 k)) = true) rs = Q_
  refine z_aload_n C dJ10_append_2_0 rfl rfl ?_
  refine z_iload_n C dJ10_append_2_1 rfl rfl ?_
  refine z_callSU (r := (RJ10, TJ10, 4)) (As := [.int (nI c)]) (rest := []) (Δ := [rs]) [0] [1] 1 (m_SB_append2 hl E q a N ml n f hN hn hf c hc) C dJ10_append_2_2 rfl rfl (eIn (i := 0) rfl eSB_mem) rfl rfl q1487 q1953 q396 q1488 q63 q1489 (by decide +kernel) rfl (ePm 2 rfl (by decide +kernel)) rfl rfl ⟨Nat.le_of_ble_eq_true rfl, Nat.le_of_ble_eq_true rfl⟩ (Nat.le_trans eS0 (Nat.le_of_ble_eq_true rfl)) ⟨by show _ ≤ 1; (try dsimp only); omega, by show _ ≤ N + (N + 2); (try dsimp only); omega⟩ (fun v_ Γ_ hp_ => ?_)
  obtain ⟨rfl, a2, N2, f2, rfl, h1, h2, h3, h4, h5⟩ := hp_
  show eZ x E _ [eSB E q a2 N2 ml (n + 1) f2, rs] 5 [some (.ref q), some (.int (nI c))] [.ref q] 1 (0 + (N + (N + 2)))
  refine z_pop C dJ10_append_2_5 rfl ?_
  refine z_aload_n C dJ10_append_2_6 rfl rfl ?_
  subst hQ_
  exact z_aret (Γ := [eSB E q a2 N2 ml (n + 1) f2]) C dJ10_append_2_7 rfl (Or.inl ⟨_, rfl⟩) (Or.inr ⟨_, rfl⟩) (by show _ ≤ 1; (try dsimp only); omega) (by show _ ≤ N + (N + 2); (try dsimp only); omega) ⟨rfl, a2, N2, f2, rfl, h1, h2, h3, h4, h5⟩

set_option maxHeartbeats 4000000 in
theorem m_SB_length9 {l : Launch} (hl : l.stackTraces = false) (E : eEn) (q a N : Nat) (ml : Int32) (n : Nat) (f : Nat → Int32)  : eMet l E yJ9_length (ws_ yJ9_length cJ9_length 1 (some .int)) ({ frames := 0, cells := 0, slots := 0, locals := 0 }) [.ref q] [eSB E q a N ml n f] (fun v Γ => v = some (.int (nI n)) ∧ Γ = [eSB E q a N ml n f]) := by
  refine eStart (cc := cJ9_length) (nL := 1) (L := [some (.ref q)]) hl (by decide) rfl (List.forall_mem_cons.mpr ⟨rfl, (fun _ h => absurd h List.not_mem_nil)⟩) (Nat.le_of_ble_eq_true rfl) ?_
  intro x rs C
  show eZ x E (eQ x E (fun v Γ => v = some (.int (nI n)) ∧ Γ = [eSB E q a N ml n f]) rs) [eSB E q a N ml n f, rs] 0 [some (.ref q)] [] 0 0
  generalize hQ_ : eQ x E (fun v Γ => v = some (.int (nI n)) ∧ Γ = [eSB E q a N ml n f]) rs = Q_
  refine z_cut 0 (bs := [eO q 18 [.ref a, .int 0, .int ml, .int (nI n)], eBA E a N f]) rfl eSB_cut rfl ?_
  show eZ x E _ [eO q 18 [.ref a, .int 0, .int ml, .int (nI n)], eBA E a N f, rs] 0 [some (.ref q)] [] 0 0
  refine z_aload_n C dJ9_length_0 rfl rfl ?_
  refine z_get eK18 0 3 C dJ9_length_1 rfl rfl q387 (eSame1 rfl) (by decide) rfl ?_
  refine z_join 2 (b := eSB E q a N ml n f) eSB_cut.symm rfl ?_
  show eZ x E _ [eSB E q a N ml n f, rs] 4 [some (.ref q)] [.int (nI n)] 0 0
  subst hQ_
  exact z_ret (Γ := [eSB E q a N ml n f]) C dJ9_length_4 rfl rfl (Nat.le_of_ble_eq_true rfl) (Nat.le_of_ble_eq_true rfl) ⟨rfl, rfl⟩

set_option maxHeartbeats 4000000 in
theorem m_SB_length {l : Launch} (hl : l.stackTraces = false) (E : eEn) (q a N : Nat) (ml : Int32) (n : Nat) (f : Nat → Int32)  : eMet l E yJ10_length (ws_ yJ10_length cJ10_length 1 (some .int)) ({ frames := 1, cells := 0, slots := 0, locals := 20 }) [.ref q] [eSB E q a N ml n f] (fun v Γ => v = some (.int (nI n)) ∧ Γ = [eSB E q a N ml n f]) := by
  refine eStart (cc := cJ10_length) (nL := 1) (L := [some (.ref q)]) hl (by decide) rfl (List.forall_mem_cons.mpr ⟨rfl, (fun _ h => absurd h List.not_mem_nil)⟩) (Nat.le_of_ble_eq_true rfl) ?_
  intro x rs C
  show eZ x E (eQ x E (fun v Γ => v = some (.int (nI n)) ∧ Γ = [eSB E q a N ml n f]) rs) [eSB E q a N ml n f, rs] 0 [some (.ref q)] [] 0 0
  generalize hQ_ : eQ x E (fun v Γ => v = some (.int (nI n)) ∧ Γ = [eSB E q a N ml n f]) rs = Q_
  refine z_aload_n C dJ10_length_0 rfl rfl ?_
  refine z_callSU (r := (RJ10, TJ10, 4)) (As := []) (rest := []) (Δ := [rs]) [0] [1] 0 (m_SB_length9 hl E q a N ml n f) C dJ10_length_1 rfl rfl (eIn (i := 0) rfl eSB_mem) rfl rfl q746 q742 q396 q741 q63 q747 (by decide +kernel) rfl (ePm 2 rfl (by decide +kernel)) rfl rfl ⟨Nat.le_of_ble_eq_true rfl, Nat.le_of_ble_eq_true rfl⟩ (Nat.le_trans eS0 (Nat.le_of_ble_eq_true rfl)) ⟨Nat.le_of_ble_eq_true rfl, Nat.le_of_ble_eq_true rfl⟩ (fun v_ Γ_ hp_ => ?_)
  obtain ⟨rfl, rfl⟩ := hp_
  show eZ x E _ [eSB E q a N ml n f, rs] 4 [some (.ref q)] [.int (nI n)] 0 0
  subst hQ_
  exact z_ret (Γ := [eSB E q a N ml n f]) C dJ10_length_4 rfl rfl (Nat.le_of_ble_eq_true rfl) (Nat.le_of_ble_eq_true rfl) ⟨rfl, rfl⟩

set_option maxHeartbeats 4000000 in
theorem m_Str_checkIndex {l : Launch} (hl : l.stackTraces = false) (E : eEn) (i n : Nat) (hN : n < 1000000) (hi : i < n) : eMet l E yJ11_checkIndex (ws_ yJ11_checkIndex cJ11_checkIndex 2 none) ({ frames := 1, cells := 0, slots := 0, locals := 22 }) [.int (nI i), .int (nI n)] [] (fun v Γ => v = none ∧ Γ = []) := by
  refine eStart (cc := cJ11_checkIndex) (nL := 2) (L := [some (.int (nI i)), some (.int (nI n))]) hl (by decide) rfl (List.forall_mem_cons.mpr ⟨rfl, (List.forall_mem_cons.mpr ⟨rfl, (fun _ h => absurd h List.not_mem_nil)⟩)⟩) (Nat.le_of_ble_eq_true rfl) ?_
  intro x rs C
  show eZ x E (eQ x E (fun v Γ => v = none ∧ Γ = []) rs) [rs] 0 [some (.int (nI i)), some (.int (nI n))] [] 0 0
  generalize hQ_ : eQ x E (fun v Γ => v = none ∧ Γ = []) rs = Q_
  refine z_iload_n C dJ11_checkIndex_0 rfl rfl ?_
  refine z_iload_n C dJ11_checkIndex_1 rfl rfl ?_
  refine z_getsF C dJ11_checkIndex_2 rfl q664 rfl (fun r1 => ?_)
  refine z_callS (As := [.int (nI i), .int (nI n), va_rf r1]) (rest := []) (Δ := [rs]) [] [0] 3 (m_Pre_checkIndex hl E r1 i n hN hi) C dJ11_checkIndex_5 rfl rfl rfl q1502 q512 q70 q513 (by decide +kernel) rfl (ePm 1 rfl (by decide +kernel)) rfl rfl ⟨Nat.le_of_ble_eq_true rfl, Nat.le_of_ble_eq_true rfl⟩ (Nat.le_trans eS0 (Nat.le_of_ble_eq_true rfl)) ⟨Nat.le_of_ble_eq_true rfl, Nat.le_of_ble_eq_true rfl⟩ (fun v_ Γ_ hp_ => ?_)
  obtain ⟨rfl, rfl⟩ := hp_
  show eZ x E _ [rs] 8 [some (.int (nI i)), some (.int (nI n))] [.int (nI i)] 0 0
  refine z_pop C dJ11_checkIndex_8 rfl ?_
  subst hQ_
  exact z_vret (Γ := []) C dJ11_checkIndex_9 rfl (Nat.le_of_ble_eq_true rfl) (Nat.le_of_ble_eq_true rfl) ⟨rfl, rfl⟩

theorem eNarC : ∀ k : Nat, k < 128 → narrow .char (.int (nI k)) = .int (nI k) := by decide +kernel

set_option maxHeartbeats 4000000 in
theorem m_SB_charAt9 {l : Launch} (hl : l.stackTraces = false) (E : eEn) (q a N : Nat) (ml : Int32) (n : Nat) (f : Nat → Int32) (hN : N ≤ 1000) (hn : n ≤ N) (i : Nat) (hi : i < n) (c : Nat) (hc : c < 128) (hfi : f i = nI c) : eMet l E yJ9_charAt (ws_ yJ9_charAt cJ9_charAt 5 (some .char)) ({ frames := 2, cells := 0, slots := 0, locals := 43 }) [.ref q, .int (nI i)] [eSB E q a N ml n f] (fun v Γ => v = some (.int (nI c)) ∧ Γ = [eSB E q a N ml n f]) := by
  refine eStart (cc := cJ9_charAt) (nL := 5) (L := [some (.ref q), some (.int (nI i)), none, none, none]) hl (by decide) rfl (List.forall_mem_cons.mpr ⟨rfl, (List.forall_mem_cons.mpr ⟨rfl, (fun _ h => absurd h List.not_mem_nil)⟩)⟩) (Nat.le_of_ble_eq_true rfl) ?_
  intro x rs C
  show eZ x E (eQ x E (fun v Γ => v = some (.int (nI c)) ∧ Γ = [eSB E q a N ml n f]) rs) [eSB E q a N ml n f, rs] 0 [some (.ref q), some (.int (nI i)), none, none, none] [] 0 0
  generalize hQ_ : eQ x E (fun v Γ => v = some (.int (nI c)) ∧ Γ = [eSB E q a N ml n f]) rs = Q_
  have hsh : nI N >>> ((0 : Int32) &&& 31) = nI N := by rw [show (0 : Int32) &&& 31 = 0 from by decide]; exact Int32.shiftRight_zero
  refine z_cut 0 (bs := [eO q 18 [.ref a, .int 0, .int ml, .int (nI n)], eBA E a N f]) rfl eSB_cut rfl ?_
  show eZ x E _ [eO q 18 [.ref a, .int 0, .int ml, .int (nI n)], eBA E a N f, rs] 0 [some (.ref q), some (.int (nI i)), none, none, none] [] 0 0
  refine z_aload_n C dJ9_charAt_0 rfl rfl ?_
  refine z_get eK18 0 1 C dJ9_charAt_1 rfl rfl q384 (eSame1 rfl) (by decide) rfl ?_
  refine z_istore_n (L2 := [some (.ref q), some (.int (nI i)), some (.int 0), none, none]) C dJ9_charAt_4 rfl (Nat.le_of_ble_eq_true rfl) rfl ?_
  refine z_aload_n C dJ9_charAt_5 rfl rfl ?_
  refine z_get eK18 0 0 C dJ9_charAt_6 rfl rfl q383 (eSame1 rfl) (by decide) rfl ?_
  refine z_astore_n (L2 := [some (.ref q), some (.int (nI i)), some (.int 0), some (.ref a), none]) C dJ9_charAt_9 rfl (Nat.le_of_ble_eq_true rfl) rfl ?_
  refine z_aload_n C dJ9_charAt_10 rfl rfl ?_
  refine z_get eK18 0 3 C dJ9_charAt_11 rfl rfl q387 (eSame1 rfl) (by decide) rfl ?_
  refine z_aload_n C dJ9_charAt_14 rfl rfl ?_
  refine z_alenb (v := nI N) 1 C dJ9_charAt_15 rfl rfl ?_
  refine z_iload_n C dJ9_charAt_16 rfl rfl ?_
  refine z_ishr (w := nI N) C dJ9_charAt_17 hsh ?_
  refine z_callS (As := [.int (nI n), .int (nI N)]) (rest := []) (Δ := [eO q 18 [.ref a, .int 0, .int ml, .int (nI n)], eBA E a N f, rs]) [] [0, 1, 2] 2 (m_Math_min hl E (nI n) (nI N)) C dJ9_charAt_18 rfl rfl rfl q1587 q268 q58 q269 (by decide +kernel) rfl (ePm 3 rfl (by decide +kernel)) rfl rfl ⟨Nat.le_of_ble_eq_true rfl, Nat.le_of_ble_eq_true rfl⟩ (Nat.le_trans eS0 (Nat.le_of_ble_eq_true rfl)) ⟨Nat.le_of_ble_eq_true rfl, Nat.le_of_ble_eq_true rfl⟩ (fun v_ Γ_ hp_ => ?_)
  obtain ⟨rfl, rfl⟩ := hp_
  show eZ x E _ [eO q 18 [.ref a, .int 0, .int ml, .int (nI n)], eBA E a N f, rs] 21 [some (.ref q), some (.int (nI i)), some (.int 0), some (.ref a), none] [.int (eMin (nI n) (nI N))] 0 0
  refine z_is (w := nI n) (by rw [eMin, if_neg (Int32.not_lt.mpr (nI_le hn (by omega)))]) ?_
  refine z_istore (L2 := [some (.ref q), some (.int (nI i)), some (.int 0), some (.ref a), some (.int (nI n))]) C dJ9_charAt_21 (Nat.le_of_ble_eq_true rfl) rfl ?_
  refine z_iload_n C dJ9_charAt_23 rfl rfl ?_
  refine z_iload C dJ9_charAt_24 rfl ?_
  refine z_callS (As := [.int (nI i), .int (nI n)]) (rest := []) (Δ := [eO q 18 [.ref a, .int 0, .int ml, .int (nI n)], eBA E a N f, rs]) [] [0, 1, 2] 2 (m_Str_checkIndex hl E i n (by omega) hi) C dJ9_charAt_26 rfl rfl rfl q1588 q1500 q65 q1501 (by decide +kernel) rfl (ePm 3 rfl (by decide +kernel)) rfl rfl ⟨Nat.le_of_ble_eq_true rfl, Nat.le_of_ble_eq_true rfl⟩ (Nat.le_trans eS0 (Nat.le_of_ble_eq_true rfl)) ⟨Nat.le_of_ble_eq_true rfl, Nat.le_of_ble_eq_true rfl⟩ (fun v_ Γ_ hp_ => ?_)
  obtain ⟨rfl, rfl⟩ := hp_
  show eZ x E _ [eO q 18 [.ref a, .int 0, .int ml, .int (nI n)], eBA E a N f, rs] 29 [some (.ref q), some (.int (nI i)), some (.int 0), some (.ref a), some (.int (nI n))] [] 0 0
  refine z_iload_n C dJ9_charAt_29 rfl rfl ?_
  refine z_if_ne 42 C dJ9_charAt_30 (by decide) (fun h_ => absurd h_ (absurd rfl h_)) (fun h_ => ?_)
  refine z_aload_n C dJ9_charAt_33 rfl rfl ?_
  refine z_iload_n C dJ9_charAt_34 rfl rfl ?_
  refine z_bald (m := i) (v := nI c) 1 C dJ9_charAt_35 rfl rfl (by omega) (by omega) hfi ?_
  refine z_sipush (v := 255) C dJ9_charAt_36 (by decide) ?_
  refine z_iand (w := (nI c) &&& 255) C dJ9_charAt_39 rfl ?_
  refine z_i2c (v := nI c) C dJ9_charAt_40 (eChr c hc).symm ?_
  refine z_join 2 (b := eSB E q a N ml n f) eSB_cut.symm rfl ?_
  show eZ x E _ [eSB E q a N ml n f, rs] 41 [some (.ref q), some (.int (nI i)), some (.int 0), some (.ref a), some (.int (nI n))] [.int (nI c)] 0 0
  subst hQ_
  exact z_ret (Γ := [eSB E q a N ml n f]) C dJ9_charAt_41 rfl (eNarC c hc) (Nat.le_of_ble_eq_true rfl) (Nat.le_of_ble_eq_true rfl) ⟨rfl, rfl⟩

set_option maxHeartbeats 4000000 in
theorem m_SB_charAt {l : Launch} (hl : l.stackTraces = false) (E : eEn) (q a N : Nat) (ml : Int32) (n : Nat) (f : Nat → Int32) (hN : N ≤ 1000) (hn : n ≤ N) (i : Nat) (hi : i < n) (c : Nat) (hc : c < 128) (hfi : f i = nI c) : eMet l E yJ10_charAt (ws_ yJ10_charAt cJ10_charAt 2 (some .char)) ({ frames := 3, cells := 0, slots := 0, locals := 67 }) [.ref q, .int (nI i)] [eSB E q a N ml n f] (fun v Γ => v = some (.int (nI c)) ∧ Γ = [eSB E q a N ml n f]) := by
  refine eStart (cc := cJ10_charAt) (nL := 2) (L := [some (.ref q), some (.int (nI i))]) hl (by decide) rfl (List.forall_mem_cons.mpr ⟨rfl, (List.forall_mem_cons.mpr ⟨rfl, (fun _ h => absurd h List.not_mem_nil)⟩)⟩) (Nat.le_of_ble_eq_true rfl) ?_
  intro x rs C
  show eZ x E (eQ x E (fun v Γ => v = some (.int (nI c)) ∧ Γ = [eSB E q a N ml n f]) rs) [eSB E q a N ml n f, rs] 0 [some (.ref q), some (.int (nI i))] [] 0 0
  generalize hQ_ : eQ x E (fun v Γ => v = some (.int (nI c)) ∧ Γ = [eSB E q a N ml n f]) rs = Q_
  refine z_aload_n C dJ10_charAt_0 rfl rfl ?_
  refine z_iload_n C dJ10_charAt_1 rfl rfl ?_
  refine z_callSU (r := (RJ10, TJ10, 4)) (As := [.int (nI i)]) (rest := []) (Δ := [rs]) [0] [1] 1 (m_SB_charAt9 hl E q a N ml n f hN hn i hi c hc hfi) C dJ10_charAt_2 rfl rfl (eIn (i := 0) rfl eSB_mem) rfl rfl q1584 q1955 q396 q1585 q63 q1586 (by decide +kernel) rfl (ePm 2 rfl (by decide +kernel)) rfl rfl ⟨Nat.le_of_ble_eq_true rfl, Nat.le_of_ble_eq_true rfl⟩ (Nat.le_trans eS0 (Nat.le_of_ble_eq_true rfl)) ⟨Nat.le_of_ble_eq_true rfl, Nat.le_of_ble_eq_true rfl⟩ (fun v_ Γ_ hp_ => ?_)
  obtain ⟨rfl, rfl⟩ := hp_
  show eZ x E _ [eSB E q a N ml n f, rs] 5 [some (.ref q), some (.int (nI i))] [.int (nI c)] 0 0
  subst hQ_
  exact z_ret (Γ := [eSB E q a N ml n f]) C dJ10_charAt_5 rfl (eNarC c hc) (Nat.le_of_ble_eq_true rfl) (Nat.le_of_ble_eq_true rfl) ⟨rfl, rfl⟩

set_option maxHeartbeats 4000000 in
theorem m_SB_ensure0 {l : Launch} (hl : l.stackTraces = false) (E : eEn) (q a N : Nat) (ml : Int32) (n : Nat) (f : Nat → Int32) (hN : N ≤ 1000) : eMet l E yJ9_ensureCapacityInternal (ws_ yJ9_ensureCapacityInternal cJ9_ensureCapacityInternal 3 none) ({ frames := 0, cells := 0, slots := 0, locals := 0 }) [.ref q, .int 0] [eSB E q a N ml n f] (fun v Γ => v = none ∧ Γ = [eSB E q a N ml n f]) := by
  refine eStart (cc := cJ9_ensureCapacityInternal) (nL := 3) (L := [some (.ref q), some (.int 0), none]) hl (by decide) rfl (List.forall_mem_cons.mpr ⟨rfl, (List.forall_mem_cons.mpr ⟨rfl, (fun _ h => absurd h List.not_mem_nil)⟩)⟩) (Nat.le_of_ble_eq_true rfl) ?_
  intro x rs C
  show eZ x E (eQ x E (fun v Γ => v = none ∧ Γ = [eSB E q a N ml n f]) rs) [eSB E q a N ml n f, rs] 0 [some (.ref q), some (.int 0), none] [] 0 0
  generalize hQ_ : eQ x E (fun v Γ => v = none ∧ Γ = [eSB E q a N ml n f]) rs = Q_
  have hsh : nI N >>> ((0 : Int32) &&& 31) = nI N := by rw [show (0 : Int32) &&& 31 = 0 from by decide]; exact Int32.shiftRight_zero
  refine z_cut 0 (bs := [eO q 18 [.ref a, .int 0, .int ml, .int (nI n)], eBA E a N f]) rfl eSB_cut rfl ?_
  show eZ x E _ [eO q 18 [.ref a, .int 0, .int ml, .int (nI n)], eBA E a N f, rs] 0 [some (.ref q), some (.int 0), none] [] 0 0
  refine z_aload_n C dJ9_ensureCapacityInternal_0 rfl rfl ?_
  refine z_get eK18 0 0 C dJ9_ensureCapacityInternal_1 rfl rfl q383 (eSame1 rfl) (by decide) rfl ?_
  refine z_alenb (v := nI N) 1 C dJ9_ensureCapacityInternal_4 rfl rfl ?_
  refine z_aload_n C dJ9_ensureCapacityInternal_5 rfl rfl ?_
  refine z_get eK18 0 1 C dJ9_ensureCapacityInternal_6 rfl rfl q384 (eSame1 rfl) (by decide) rfl ?_
  refine z_ishr (w := nI N) C dJ9_ensureCapacityInternal_9 hsh ?_
  refine z_istore_n (L2 := [some (.ref q), some (.int 0), some (.int (nI N))]) C dJ9_ensureCapacityInternal_10 rfl (Nat.le_of_ble_eq_true rfl) rfl ?_
  refine z_iload_n C dJ9_ensureCapacityInternal_11 rfl rfl ?_
  refine z_iload_n C dJ9_ensureCapacityInternal_12 rfl rfl ?_
  refine z_isub (w := 0 - (nI N)) C dJ9_ensureCapacityInternal_13 rfl ?_
  refine z_if_le 38 C dJ9_ensureCapacityInternal_14 (by decide) (fun h_ => ?_) (fun h_ => absurd h_ (absurd (eSubLe (Nat.zero_le N) hN) h_))
  refine z_join 2 (b := eSB E q a N ml n f) eSB_cut.symm rfl ?_
  show eZ x E _ [eSB E q a N ml n f, rs] 38 [some (.ref q), some (.int 0), some (.int (nI N))] [] 0 0
  subst hQ_
  exact z_vret (Γ := [eSB E q a N ml n f]) C dJ9_ensureCapacityInternal_38 rfl (Nat.le_of_ble_eq_true rfl) (Nat.le_of_ble_eq_true rfl) ⟨rfl, rfl⟩

set_option maxHeartbeats 4000000 in
theorem m_SB_setLength9 {l : Launch} (hl : l.stackTraces = false) (E : eEn) (q a N : Nat) (ml : Int32) (n : Nat) (f : Nat → Int32) (hN : N ≤ 1000) (hn : n ≤ N) (hf : ∀ k, k < N → fits .byte (.int (f k)) = true) : eMet l E yJ9_setLength (ws_ yJ9_setLength cJ9_setLength 2 none) ({ frames := 1, cells := 0, slots := 0, locals := 22 }) [.ref q, .int 0] [eSB E q a N ml n f] (fun v Γ => v = none ∧ ∃ ml2, Γ = [eSB E q a N ml2 0 f]) := by
  refine eStart (cc := cJ9_setLength) (nL := 2) (L := [some (.ref q), some (.int 0)]) hl (by decide) rfl (List.forall_mem_cons.mpr ⟨rfl, (List.forall_mem_cons.mpr ⟨rfl, (fun _ h => absurd h List.not_mem_nil)⟩)⟩) (Nat.le_of_ble_eq_true rfl) ?_
  intro x rs C
  show eZ x E (eQ x E (fun v Γ => v = none ∧ ∃ ml2, Γ = [eSB E q a N ml2 0 f]) rs) [eSB E q a N ml n f, rs] 0 [some (.ref q), some (.int 0)] [] 0 0
  generalize hQ_ : eQ x E (fun v Γ => v = none ∧ ∃ ml2, Γ = [eSB E q a N ml2 0 f]) rs = Q_
  refine z_iload_n C dJ9_setLength_0 rfl rfl ?_
  refine z_if_ge 13 C dJ9_setLength_1 (by decide) (fun h_ => ?_) (fun h_ => absurd h_ (absurd (Int32.le_refl 0) h_))
  refine z_aload_n C dJ9_setLength_13 rfl rfl ?_
  refine z_iload_n C dJ9_setLength_14 rfl rfl ?_
  refine z_callP (r := (RJ10, TJ10, 4)) (As := [.int 0]) (rest := []) (Δ := [rs]) [0] [1] 1 (m_SB_ensure0 hl E q a N ml n f hN) C dJ9_setLength_15 rfl rfl (eIn (i := 0) rfl eSB_mem) rfl rfl rfl q629 q631 q630 q649 q63 q632 (by decide +kernel) rfl (ePm 2 rfl (by decide +kernel)) rfl rfl ⟨Nat.le_of_ble_eq_true rfl, Nat.le_of_ble_eq_true rfl⟩ (Nat.le_trans eS0 (Nat.le_of_ble_eq_true rfl)) ⟨Nat.le_of_ble_eq_true rfl, Nat.le_of_ble_eq_true rfl⟩ (fun v_ Γ_ hp_ => ?_)
  obtain ⟨rfl, rfl⟩ := hp_
  show eZ x E _ [eSB E q a N ml n f, rs] 18 [some (.ref q), some (.int 0)] [] 0 0
  refine z_cut 0 (bs := [eO q 18 [.ref a, .int 0, .int ml, .int (nI n)], eBA E a N f]) rfl eSB_cut rfl ?_
  show eZ x E _ [eO q 18 [.ref a, .int 0, .int ml, .int (nI n)], eBA E a N f, rs] 18 [some (.ref q), some (.int 0)] [] 0 0
  refine z_aload_n C dJ9_setLength_18 rfl rfl ?_
  refine z_get eK18 0 3 C dJ9_setLength_19 rfl rfl q387 (eSame1 rfl) (by decide) rfl ?_
  refine z_iload_n C dJ9_setLength_22 rfl rfl ?_
  refine z_icmp_ge 63 C dJ9_setLength_23 (by decide) (fun h_ => ?_) (fun h_ => absurd h_ (absurd (nI_pos' (by omega)) h_))
  refine z_aload_n C dJ9_setLength_63 rfl rfl ?_
  refine z_get eK18 0 3 C dJ9_setLength_64 rfl rfl q387 (eSame1 rfl) (by decide) rfl ?_
  refine z_iload_n C dJ9_setLength_67 rfl rfl ?_
  refine z_icmp_le 76 C dJ9_setLength_68 (by decide) (fun h1 => ?_) (fun h1 => ?_)
  · refine z_aload_n C dJ9_setLength_76 rfl rfl ?_
    refine z_iload_n C dJ9_setLength_77 rfl rfl ?_
    refine z_put eK18 0 3 (Γ2 := [eO q 18 [.ref a, .int 0, .int ml, .int 0], eBA E a N f, rs]) C dJ9_setLength_78 rfl rfl q387 (eSame1 rfl) (by decide) rfl rfl rfl rfl (Nat.le_of_ble_eq_true rfl) rfl ?_
    refine z_pick (Γ' := [eO q 18 [.ref a, .int 0, .int ml, .int 0], eBA E a N f, rs]) [0, 1, 2] (ePm 3 rfl (by decide +kernel)) rfl ?_
    refine z_join 2 (b := eSB E q a N ml 0 f) eSB_cut.symm rfl ?_
    show eZ x E _ [eSB E q a N ml 0 f, rs] 81 [some (.ref q), some (.int 0)] [] 0 0
    subst hQ_
    exact z_vret (Γ := [eSB E q a N ml 0 f]) C dJ9_setLength_81 rfl (Nat.le_of_ble_eq_true rfl) (Nat.le_of_ble_eq_true rfl) ⟨rfl, _, rfl⟩
  · refine z_aload_n C dJ9_setLength_71 rfl rfl ?_
    refine z_iconst (v := 1) C dJ9_setLength_72 (by decide) ?_
    refine z_put eK18 0 2 (Γ2 := [eO q 18 [.ref a, .int 0, .int 1, .int (nI n)], eBA E a N f, rs]) C dJ9_setLength_73 rfl rfl q385 (eSame1 rfl) (by decide) rfl rfl rfl rfl (Nat.le_of_ble_eq_true rfl) rfl ?_
    refine z_aload_n C dJ9_setLength_76 rfl rfl ?_
    refine z_iload_n C dJ9_setLength_77 rfl rfl ?_
    refine z_put eK18 0 3 (Γ2 := [eO q 18 [.ref a, .int 0, .int 1, .int 0], eBA E a N f, rs]) C dJ9_setLength_78 rfl rfl q387 (eSame1 rfl) (by decide) rfl rfl rfl rfl (Nat.le_of_ble_eq_true rfl) rfl ?_
    refine z_pick (Γ' := [eO q 18 [.ref a, .int 0, .int 1, .int 0], eBA E a N f, rs]) [0, 1, 2] (ePm 3 rfl (by decide +kernel)) rfl ?_
    refine z_join 2 (b := eSB E q a N 1 0 f) eSB_cut.symm rfl ?_
    show eZ x E _ [eSB E q a N 1 0 f, rs] 81 [some (.ref q), some (.int 0)] [] 0 0
    subst hQ_
    exact z_vret (Γ := [eSB E q a N 1 0 f]) C dJ9_setLength_81 rfl (Nat.le_of_ble_eq_true rfl) (Nat.le_of_ble_eq_true rfl) ⟨rfl, _, rfl⟩

set_option maxHeartbeats 4000000 in
theorem m_SB_setLength {l : Launch} (hl : l.stackTraces = false) (E : eEn) (q a N : Nat) (ml : Int32) (n : Nat) (f : Nat → Int32) (hN : N ≤ 1000) (hn : n ≤ N) (hf : ∀ k, k < N → fits .byte (.int (f k)) = true) : eMet l E yJ10_setLength (ws_ yJ10_setLength cJ10_setLength 2 none) ({ frames := 2, cells := 0, slots := 0, locals := 43 }) [.ref q, .int 0] [eSB E q a N ml n f] (fun v Γ => v = none ∧ ∃ ml2, Γ = [eSB E q a N ml2 0 f]) := by
  refine eStart (cc := cJ10_setLength) (nL := 2) (L := [some (.ref q), some (.int 0)]) hl (by decide) rfl (List.forall_mem_cons.mpr ⟨rfl, (List.forall_mem_cons.mpr ⟨rfl, (fun _ h => absurd h List.not_mem_nil)⟩)⟩) (Nat.le_of_ble_eq_true rfl) ?_
  intro x rs C
  show eZ x E (eQ x E (fun v Γ => v = none ∧ ∃ ml2, Γ = [eSB E q a N ml2 0 f]) rs) [eSB E q a N ml n f, rs] 0 [some (.ref q), some (.int 0)] [] 0 0
  generalize hQ_ : eQ x E (fun v Γ => v = none ∧ ∃ ml2, Γ = [eSB E q a N ml2 0 f]) rs = Q_
  refine z_aload_n C dJ10_setLength_0 rfl rfl ?_
  refine z_iload_n C dJ10_setLength_1 rfl rfl ?_
  refine z_callSU (r := (RJ10, TJ10, 4)) (As := [.int 0]) (rest := []) (Δ := [rs]) [0] [1] 1 (m_SB_setLength9 hl E q a N ml n f hN hn hf) C dJ10_setLength_2 rfl rfl (eIn (i := 0) rfl eSB_mem) rfl rfl q1511 q1954 q396 q1512 q63 q1513 (by decide +kernel) rfl (ePm 2 rfl (by decide +kernel)) rfl rfl ⟨Nat.le_of_ble_eq_true rfl, Nat.le_of_ble_eq_true rfl⟩ (Nat.le_trans eS0 (Nat.le_of_ble_eq_true rfl)) ⟨Nat.le_of_ble_eq_true rfl, Nat.le_of_ble_eq_true rfl⟩ (fun v_ Γ_ hp_ => ?_)
  obtain ⟨rfl, ml2, rfl⟩ := hp_
  show eZ x E _ [eSB E q a N ml2 0 f, rs] 5 [some (.ref q), some (.int 0)] [] 0 0
  subst hQ_
  exact z_vret (Γ := [eSB E q a N ml2 0 f]) C dJ10_setLength_5 rfl (Nat.le_of_ble_eq_true rfl) (Nat.le_of_ble_eq_true rfl) ⟨rfl, ml2, rfl⟩

set_option maxHeartbeats 4000000 in
theorem m_SB_init9 {l : Launch} (hl : l.stackTraces = false) (E : eEn) (q : Nat) : eMet l E yJ9_init (ws_ yJ9_init cJ9_init 2 none) ({ frames := 1, cells := 1, slots := 16, locals := 12 }) [.ref q, .int 16] [eO q 18 [.null, .int 0, .int 0, .int 0]] (fun v Γ => v = none ∧ ∃ a, Γ = [eSB E q a 16 0 0 (fun _ => 0)]) := by
  refine eStart (cc := cJ9_init) (nL := 2) (L := [some (.ref q), some (.int 16)]) hl (by decide) rfl (List.forall_mem_cons.mpr ⟨rfl, (List.forall_mem_cons.mpr ⟨rfl, (fun _ h => absurd h List.not_mem_nil)⟩)⟩) (Nat.le_of_ble_eq_true rfl) ?_
  intro x rs C
  show eZ x E (eQ x E (fun v Γ => v = none ∧ ∃ a, Γ = [eSB E q a 16 0 0 (fun _ => 0)]) rs) [eO q 18 [.null, .int 0, .int 0, .int 0], rs] 0 [some (.ref q), some (.int 16)] [] 0 0
  generalize hQ_ : eQ x E (fun v Γ => v = none ∧ ∃ a, Γ = [eSB E q a 16 0 0 (fun _ => 0)]) rs = Q_
  refine z_aload_n C dJ9_init_0 rfl rfl ?_
  refine z_objInit C dJ9_init_1 rfl rfl q373 q99 q100 (Nat.le_of_ble_eq_true rfl) (Nat.le_of_ble_eq_true rfl) ?_
  refine z_getsC C dJ9_init_4 rfl q374 rfl ?_
  refine z_if_eq 25 C dJ9_init_7 (by decide) (fun h_ => absurd h_ (by decide)) (fun h_ => ?_)
  refine z_aload_n C dJ9_init_10 rfl rfl ?_
  refine z_iload_n C dJ9_init_11 rfl rfl ?_
  refine z_newB (m := 16) C dJ9_init_12 rfl (by decide) (Nat.le_of_ble_eq_true rfl) (Nat.le_of_ble_eq_true rfl) (fun a1 => ?_)
  show eZ x E _ [eO q 18 [.null, .int 0, .int 0, .int 0], rs, eBA E a1 16 (fun _ => 0)] 14 [some (.ref q), some (.int 16)] [.ref a1, .ref q] 1 16
  refine z_put eK18 0 0 (Γ2 := [eO q 18 [.ref a1, .int 0, .int 0, .int 0], rs, eBA E a1 16 (fun _ => 0)]) C dJ9_init_14 rfl rfl q383 (eSame1 rfl) (by decide) rfl rfl rfl rfl (Nat.le_of_ble_eq_true rfl) rfl ?_
  refine z_aload_n C dJ9_init_17 rfl rfl ?_
  refine z_iconst (v := 0) C dJ9_init_18 (by decide) ?_
  refine z_put eK18 0 1 (Γ2 := [eO q 18 [.ref a1, .int 0, .int 0, .int 0], rs, eBA E a1 16 (fun _ => 0)]) C dJ9_init_19 rfl rfl q384 (eSame1 rfl) (by decide) rfl rfl rfl rfl (Nat.le_of_ble_eq_true rfl) rfl ?_
  refine z_goto 38 C dJ9_init_22 (by decide) ?_
  refine z_pick (Γ' := [eO q 18 [.ref a1, .int 0, .int 0, .int 0], eBA E a1 16 (fun _ => 0), rs]) [0, 2, 1] (ePm 3 rfl (by decide +kernel)) rfl ?_
  refine z_join 2 (b := eSB E q a1 16 0 0 (fun _ => 0)) (by rw [eSB_cut]; rfl) rfl ?_
  show eZ x E _ [eSB E q a1 16 0 0 (fun _ => 0), rs] 38 [some (.ref q), some (.int 16)] [] 1 16
  subst hQ_
  exact z_vret (Γ := [eSB E q a1 16 0 0 (fun _ => 0)]) C dJ9_init_38 rfl (Nat.le_of_ble_eq_true rfl) (Nat.le_of_ble_eq_true rfl) ⟨rfl, a1, rfl⟩

set_option maxHeartbeats 4000000 in
theorem m_SB_init {l : Launch} (hl : l.stackTraces = false) (E : eEn) (q : Nat) : eMet l E yJ10_init (ws_ yJ10_init cJ10_init 1 none) ({ frames := 2, cells := 1, slots := 16, locals := 33 }) [.ref q] [eO q 18 [.null, .int 0, .int 0, .int 0]] (fun v Γ => v = none ∧ ∃ a, Γ = [eSB E q a 16 0 0 (fun _ => 0)]) := by
  refine eStart (cc := cJ10_init) (nL := 1) (L := [some (.ref q)]) hl (by decide) rfl (List.forall_mem_cons.mpr ⟨rfl, (fun _ h => absurd h List.not_mem_nil)⟩) (Nat.le_of_ble_eq_true rfl) ?_
  intro x rs C
  show eZ x E (eQ x E (fun v Γ => v = none ∧ ∃ a, Γ = [eSB E q a 16 0 0 (fun _ => 0)]) rs) [eO q 18 [.null, .int 0, .int 0, .int 0], rs] 0 [some (.ref q)] [] 0 0
  generalize hQ_ : eQ x E (fun v Γ => v = none ∧ ∃ a, Γ = [eSB E q a 16 0 0 (fun _ => 0)]) rs = Q_
  refine z_aload_n C dJ10_init_0 rfl rfl ?_
  refine z_bipush (v := 16) C dJ10_init_1 (by decide) ?_
  refine z_callI (As := [.int 16]) (rest := []) (Δ := [rs]) [0] [1] 1 (m_SB_init9 hl E q) C dJ10_init_3 rfl rfl rfl q370 q371 q63 q372 rfl (by decide +kernel) rfl (ePm 2 rfl (by decide +kernel)) rfl rfl ⟨Nat.le_of_ble_eq_true rfl, Nat.le_of_ble_eq_true rfl⟩ (Nat.le_trans eS0 (Nat.le_of_ble_eq_true rfl)) ⟨Nat.le_of_ble_eq_true rfl, Nat.le_of_ble_eq_true rfl⟩ (fun v_ Γ_ hp_ => ?_)
  obtain ⟨rfl, a, rfl⟩ := hp_
  show eZ x E _ [eSB E q a 16 0 0 (fun _ => 0), rs] 6 [some (.ref q)] [] 1 16
  subst hQ_
  exact z_vret (Γ := [eSB E q a 16 0 0 (fun _ => 0)]) C dJ10_init_6 rfl (Nat.le_of_ble_eq_true rfl) (Nat.le_of_ble_eq_true rfl) ⟨rfl, a, rfl⟩
