/-! ===== the texts "slt" and "cr" ===== -/
set_option maxRecDepth 100000
section ZSS
variable {x : eCx} {E : eEn} {l : Launch} {Q : State → Prop} {P : Option Value → List va_W → Prop} {Γ Γ1 Δ : List va_W} {pc : Nat} {L : List (Option Value)} {rest st : List Value} {k n : Nat} {y y' : MethodName} {cc bytes : ByteArray} {nL maxL idx : Nat} {rt ret : Option FieldType} {rm rm' : Room} {As : List Value} {own : String} {b : Nat}
theorem eStS (C : eOk x E l y cc nL rt rm) : vk_S 6 eSl eSb (fun i => E.2.2.2 (10 + i)) (fun i => E.2.2.2 (20 + i)) (eA E) (eSt x) (eSt x).heap := C.2.2.2.2.2.2.2.1.2.2.2.2.2.1.2.2
theorem z_sgetC (i : Nat) (hi : i < 6) (C : eOk x E l y cc nL rt rm) (d : decode cc pc = .ok (.getfield idx, 3)) (ho : y.cls = own) (q : Cond.fieldLink own idx "java/lang/String" "coder" "B" ∈ lw_all)
    (kk : eZ x E Q Γ (pc + 3) L (.int 0 :: rest) k n) : eZ x E Q Γ pc L (.ref (E.2.2.2 (10 + i)) :: rest) k n :=
  fun H locs ls hP hD hS hl => vk_getf C.1 C.2.1 ((eStS C).1 i hi).2.1 hS (ho ▸ C.2.2.2.1) (C.2.2.2.2.1 _ q) (fun _ h => h) d (kk H locs ls hP hD hS hl)
theorem z_sgetV (i : Nat) (hi : i < 6) (C : eOk x E l y cc nL rt rm) (d : decode cc pc = .ok (.getfield idx, 3)) (ho : y.cls = own) (q : Cond.fieldLink own idx "java/lang/String" "value" "[B" ∈ lw_all)
    (kk : eZ x E Q Γ (pc + 3) L (.ref (E.2.2.2 (20 + i)) :: rest) k n) : eZ x E Q Γ pc L (.ref (E.2.2.2 (10 + i)) :: rest) k n :=
  fun H locs ls hP hD hS hl => vk_getf C.1 C.2.1 ((eStS C).1 i hi).2.2.1 hS (ho ▸ C.2.2.2.1) (C.2.2.2.2.1 _ q) (fun _ h => h) d (kk H locs ls hP hD hS hl)
theorem z_slen (i : Nat) (hi : i < 6) (C : eOk x E l y cc nL rt rm) (d : decode cc pc = .ok (.arraylength, 1)) {v : Int32} (hv : Int32.ofNat (eSl.getD i 0) = v)
    (kk : eZ x E Q Γ (pc + 1) L (.int v :: rest) k n) : eZ x E Q Γ pc L (.ref (E.2.2.2 (20 + i)) :: rest) k n :=
  fun H locs ls hP hD hS hl => va_tlen C.1 C.2.1 ((eStS C).1 i hi).2.2.2 hS hv d (kk H locs ls hP hD hS hl)
theorem z_sald (i : Nat) (hi : i < 6) (C : eOk x E l y cc nL rt rm) (d : decode cc pc = .ok (.baload, 1)) {j v : Int32} (hin : vp_in j (eSl.getD i 0)) (hv : (eSb.getD i []).getD j.toNatClampNeg 0 = v)
    (kk : eZ x E Q Γ (pc + 1) L (.int v :: rest) k n) : eZ x E Q Γ pc L (.int j :: .ref (E.2.2.2 (20 + i)) :: rest) k n :=
  fun H locs ls hP hD hS hl => va_tb C.1 C.2.1 ((eStS C).1 i hi).2.2.2 hS hin (by rw [hv]) d (kk H locs ls hP hD hS hl)
theorem z_callVs (i : Nat) (hi : i < 6) (k1 k2 : List Nat) (nA : Nat) (hM : eMet l E y' (ws_ y' bytes maxL ret) rm' (.ref b :: As) Γ1 P) (C : eOk x E l y cc nL rt rm) (d : decode cc pc = .ok (.invokevirtual idx, 3)) (hL0 : L.length = nL) (hst : st = As.reverse ++ .ref b :: rest) (hb : b = E.2.2.2 (10 + i)) (ho : y.cls = own) (q1 : Cond.methodLink own idx y' ∈ lw_all) (q2 : Cond.instanceMethod y' ∈ lw_all) (q3 : Cond.selects "java/lang/String" y' y' ∈ lw_all) (q4 : Cond.initialized "java/lang/String" ∈ lw_all) (q5 : Cond.code y' bytes maxL ret ∈ lw_all)
    (hd : y'.cls = "java/lang/String" ∧ y'.cls ≠ "java/lang/invoke/MethodHandle" ∧ y'.cls ≠ "java/lang/invoke/VarHandle" ∧ (parseMethodDescriptor y'.desc).map (fun d => d.parameters.length) = some nA) (hn : As.length = nA) (hp : (k1 ++ k2).isPerm (List.range Γ.length) = true) (h1 : ePick Γ k1 = Γ1) (h2 : ePick Γ k2 = Δ) (hf : rm'.frames + 1 ≤ rm.frames ∧ 8 + (maxL + 11) + rm'.locals ≤ rm.locals) (hr : (rest.map fun v => v.category).sum ≤ 8) (hk : k + rm'.cells ≤ rm.cells ∧ n + rm'.slots ≤ rm.slots)
    (kk : ∀ (v : Option Value) (Γ2 : List va_W), P v Γ2 → eZ x E Q (Γ2 ++ Δ) (pc + 3) L (v.toList ++ rest) (k + rm'.cells) (n + rm'.slots)) : eZ x E Q Γ pc L st k n := by
  intro H locs ls hP hD hS hl
  have hR := C.2.2.2.2.2.2.2.2.1
  have hll := C.2.2.2.2.2.2.2.2.2.1
  subst hst
  subst hb
  refine eRun (va_runV (As := As) (rest := rest) (cc := cc) (nL := nL) (Ts := lw_all) (own := own) ⟨C.1, C.2.1, C.2.2.1, ho ▸ C.2.2.2.1, C.2.2.2.2.1⟩ (hll ▸ hM Δ.flatten) (cwV (R := eRo x) nA C.2.2.2.2.1 (lw_V q1 q2 q3 q4 q5) rfl rfl rfl hd (by rw [hR]; exact hf)) ⟨ePc.blind, vk_recv (eStS C) hi hS, eCallPre C hP hD hS hp h1 h2⟩ rfl hn (by rw [hl.1.1, hL0]) rfl (lv_room hr) d (by show k + _ ≤ (eRo x).cells ∧ n + _ ≤ (eRo x).slots; rw [hR]; exact hk)) hS (fun v Γ2 H1 locs1 hp hP1 hD1 hS1 => ?_)
  rw [eJ_fl] at hP1 hD1
  exact kk v Γ2 hp H1 locs1 ls hP1 hD1 hS1 hl
end ZSS
def gIx (i : Nat) (c : Int32) : Int32 := if i = 0 then (if 115 = c then 0 else if 108 = c then 1 else if 116 = c then 2 else -1) else (if 99 = c then 0 else if 114 = c then 1 else -1)

set_option maxHeartbeats 4000000 in
theorem m_canEncodeI {l : Launch} (hl : l.stackTraces = false) (E : eEn) (c : Nat) (hc : c < 128) : eMet l E yJ20_canEncode_2 (ws_ yJ20_canEncode_2 cJ20_canEncode_2 1 (some .boolean)) ({ frames := 0, cells := 0, slots := 0, locals := 0 }) [.int (nI c)] [] (fun v Γ => v = some (.int 1) ∧ Γ = []) := by
  refine eStart (cc := cJ20_canEncode_2) (nL := 1) (L := [some (.int (nI c))]) hl (by decide) rfl (List.forall_mem_cons.mpr ⟨rfl, (fun _ h => absurd h List.not_mem_nil)⟩) (Nat.le_of_ble_eq_true rfl) ?_
  intro x rs C
  show eZ x E (eQ x E (fun v Γ => v = some (.int 1) ∧ Γ = []) rs) [rs] 0 [some (.int (nI c))] [] 0 0
  generalize hQ_ : eQ x E (fun v Γ => v = some (.int 1) ∧ Γ = []) rs = Q_
  refine z_iload_n C dJ20_canEncode_2_0 rfl rfl ?_
  refine z_if_lt 15 C dJ20_canEncode_2_1 (by decide) (fun h_ => absurd h_ (absurd (nI_pos' (by omega)) (Int32.not_le.mpr h_))) (fun h_ => ?_)
  refine z_iload_n C dJ20_canEncode_2_4 rfl rfl ?_
  refine z_sipush (v := 255) C dJ20_canEncode_2_5 (by decide) ?_
  refine z_icmp_gt 15 C dJ20_canEncode_2_8 (by decide) (fun h_ => absurd h_ (absurd h_ (Int32.not_lt.mpr (nI_le (a := c) (b := 255) (by omega) (by decide))))) (fun h_ => ?_)
  refine z_iconst (v := 1) C dJ20_canEncode_2_11 (by decide) ?_
  refine z_goto 16 C dJ20_canEncode_2_12 (by decide) ?_
  subst hQ_
  exact z_ret (Γ := []) C dJ20_canEncode_2_16 rfl (by decide) (Nat.le_of_ble_eq_true rfl) (Nat.le_of_ble_eq_true rfl) ⟨rfl, rfl⟩

set_option maxHeartbeats 4000000 in
theorem m_Str0_isLatin1 {l : Launch} (hl : l.stackTraces = false) (E : eEn) : eMet l E yJ11_isLatin1 (ws_ yJ11_isLatin1 cJ11_isLatin1 1 (some .boolean)) ({ frames := 0, cells := 0, slots := 0, locals := 0 }) [.ref (E.2.2.2 10)] [] (fun v Γ => v = some (.int 1) ∧ Γ = []) := by
  refine eStart (cc := cJ11_isLatin1) (nL := 1) (L := [some (.ref (E.2.2.2 10))]) hl (by decide) rfl (List.forall_mem_cons.mpr ⟨rfl, (fun _ h => absurd h List.not_mem_nil)⟩) (Nat.le_of_ble_eq_true rfl) ?_
  intro x rs C
  show eZ x E (eQ x E (fun v Γ => v = some (.int 1) ∧ Γ = []) rs) [rs] 0 [some (.ref (E.2.2.2 10))] [] 0 0
  generalize hQ_ : eQ x E (fun v Γ => v = some (.int 1) ∧ Γ = []) rs = Q_
  refine z_getsC C dJ11_isLatin1_0 rfl q686 rfl ?_
  refine z_if_eq 17 C dJ11_isLatin1_3 (by decide) (fun h_ => absurd h_ (by decide)) (fun h_ => ?_)
  refine z_aload_n C dJ11_isLatin1_6 rfl rfl ?_
  refine z_sgetC 0 (by decide) C dJ11_isLatin1_7 rfl q772 ?_
  refine z_if_ne 17 C dJ11_isLatin1_10 (by decide) (fun h_ => absurd h_ (absurd rfl h_)) (fun h_ => ?_)
  refine z_iconst (v := 1) C dJ11_isLatin1_13 (by decide) ?_
  refine z_goto 18 C dJ11_isLatin1_14 (by decide) ?_
  subst hQ_
  exact z_ret (Γ := []) C dJ11_isLatin1_18 rfl (by decide) (Nat.le_of_ble_eq_true rfl) (Nat.le_of_ble_eq_true rfl) ⟨rfl, rfl⟩

set_option maxHeartbeats 4000000 in
theorem m_Str0_coder {l : Launch} (hl : l.stackTraces = false) (E : eEn) : eMet l E yJ11_coder (ws_ yJ11_coder cJ11_coder 1 (some .byte)) ({ frames := 0, cells := 0, slots := 0, locals := 0 }) [.ref (E.2.2.2 10)] [] (fun v Γ => v = some (.int 0) ∧ Γ = []) := by
  refine eStart (cc := cJ11_coder) (nL := 1) (L := [some (.ref (E.2.2.2 10))]) hl (by decide) rfl (List.forall_mem_cons.mpr ⟨rfl, (fun _ h => absurd h List.not_mem_nil)⟩) (Nat.le_of_ble_eq_true rfl) ?_
  intro x rs C
  show eZ x E (eQ x E (fun v Γ => v = some (.int 0) ∧ Γ = []) rs) [rs] 0 [some (.ref (E.2.2.2 10))] [] 0 0
  generalize hQ_ : eQ x E (fun v Γ => v = some (.int 0) ∧ Γ = []) rs = Q_
  refine z_getsC C dJ11_coder_0 rfl q686 rfl ?_
  refine z_if_eq 13 C dJ11_coder_3 (by decide) (fun h_ => absurd h_ (by decide)) (fun h_ => ?_)
  refine z_aload_n C dJ11_coder_6 rfl rfl ?_
  refine z_sgetC 0 (by decide) C dJ11_coder_7 rfl q772 ?_
  refine z_goto 14 C dJ11_coder_10 (by decide) ?_
  subst hQ_
  exact z_ret (Γ := []) C dJ11_coder_14 rfl (by decide) (Nat.le_of_ble_eq_true rfl) (Nat.le_of_ble_eq_true rfl) ⟨rfl, rfl⟩

set_option maxHeartbeats 4000000 in
theorem m_Str0_length {l : Launch} (hl : l.stackTraces = false) (E : eEn) : eMet l E yJ11_length (ws_ yJ11_length cJ11_length 1 (some .int)) ({ frames := 1, cells := 0, slots := 0, locals := 20 }) [.ref (E.2.2.2 10)] [] (fun v Γ => v = some (.int 3) ∧ Γ = []) := by
  refine eStart (cc := cJ11_length) (nL := 1) (L := [some (.ref (E.2.2.2 10))]) hl (by decide) rfl (List.forall_mem_cons.mpr ⟨rfl, (fun _ h => absurd h List.not_mem_nil)⟩) (Nat.le_of_ble_eq_true rfl) ?_
  intro x rs C
  show eZ x E (eQ x E (fun v Γ => v = some (.int 3) ∧ Γ = []) rs) [rs] 0 [some (.ref (E.2.2.2 10))] [] 0 0
  generalize hQ_ : eQ x E (fun v Γ => v = some (.int 3) ∧ Γ = []) rs = Q_
  refine z_aload_n C dJ11_length_0 rfl rfl ?_
  refine z_sgetV 0 (by decide) C dJ11_length_1 rfl q771 ?_
  refine z_slen 0 (by decide) C dJ11_length_4 (v := 3) (by decide) ?_
  refine z_aload_n C dJ11_length_5 rfl rfl ?_
  refine z_callVs (As := []) (rest := [.int 3]) (Δ := [rs]) 0 (by decide) [] [0] 0 (m_Str0_coder hl E) C dJ11_length_6 rfl rfl rfl rfl q682 q683 q684 q65 q685 (by decide +kernel) rfl (ePm 1 rfl (by decide +kernel)) rfl rfl ⟨Nat.le_of_ble_eq_true rfl, Nat.le_of_ble_eq_true rfl⟩ (Nat.le_trans (eSm rfl eS0) (Nat.le_of_ble_eq_true rfl)) ⟨Nat.le_of_ble_eq_true rfl, Nat.le_of_ble_eq_true rfl⟩ (fun v_ Γ_ hp_ => ?_)
  obtain ⟨rfl, rfl⟩ := hp_
  show eZ x E _ [rs] 9 [some (.ref (E.2.2.2 10))] [.int 0, .int 3] 0 0
  refine z_ishr (w := 3) C dJ11_length_9 (by decide) ?_
  subst hQ_
  exact z_ret (Γ := []) C dJ11_length_10 rfl rfl (Nat.le_of_ble_eq_true rfl) (Nat.le_of_ble_eq_true rfl) ⟨rfl, rfl⟩

set_option maxHeartbeats 4000000 in
theorem m_L1_indexOfChar0 {l : Launch} (hl : l.stackTraces = false) (E : eEn) (c : Nat) (hc : c < 128) : eMet l E yJ20_indexOfChar (ws_ yJ20_indexOfChar cJ20_indexOfChar 6 (some .int)) ({ frames := 0, cells := 0, slots := 0, locals := 0 }) [.ref (E.2.2.2 20), .int (nI c), .int 0, .int 3] [] (fun v Γ => v = some (.int (gIx 0 (nI c))) ∧ Γ = []) := by
  refine eStart (cc := cJ20_indexOfChar) (nL := 6) (L := [some (.ref (E.2.2.2 20)), some (.int (nI c)), some (.int 0), some (.int 3), none, none]) hl (by decide) rfl (List.forall_mem_cons.mpr ⟨rfl, (List.forall_mem_cons.mpr ⟨rfl, (List.forall_mem_cons.mpr ⟨rfl, (List.forall_mem_cons.mpr ⟨rfl, (fun _ h => absurd h List.not_mem_nil)⟩)⟩)⟩)⟩) (Nat.le_of_ble_eq_true rfl) ?_
  intro x rs C
  show eZ x E (eQ x E (fun v Γ => v = some (.int (gIx 0 (nI c))) ∧ Γ = []) rs) [rs] 0 [some (.ref (E.2.2.2 20)), some (.int (nI c)), some (.int 0), some (.int 3), none, none] [] 0 0
  generalize hQ_ : eQ x E (fun v Γ => v = some (.int (gIx 0 (nI c))) ∧ Γ = []) rs = Q_
  refine z_iload_n C dJ20_indexOfChar_0 rfl rfl ?_
  refine z_i2b (v := nI c) C dJ20_indexOfChar_1 (eI2b c hc).symm ?_
  refine z_istore (L2 := [some (.ref (E.2.2.2 20)), some (.int (nI c)), some (.int 0), some (.int 3), some (.int (nI c)), none]) C dJ20_indexOfChar_2 (Nat.le_of_ble_eq_true rfl) rfl ?_
  refine z_iload_n C dJ20_indexOfChar_4 rfl rfl ?_
  refine z_istore (L2 := [some (.ref (E.2.2.2 20)), some (.int (nI c)), some (.int 0), some (.int 3), some (.int (nI c)), some (.int 0)]) C dJ20_indexOfChar_5 (Nat.le_of_ble_eq_true rfl) rfl ?_
  refine z_iload C dJ20_indexOfChar_7 rfl ?_
  refine z_iload_n C dJ20_indexOfChar_9 rfl rfl ?_
  refine z_icmp_ge 31 C dJ20_indexOfChar_10 (by decide) (fun h_ => absurd h_ (absurd h_ (by decide))) (fun h_ => ?_)
  refine z_aload_n C dJ20_indexOfChar_13 rfl rfl ?_
  refine z_iload C dJ20_indexOfChar_14 rfl ?_
  refine z_sald 0 (by decide) C dJ20_indexOfChar_16 (v := 115) (by unfold vp_in; decide) (by decide) ?_
  refine z_iload C dJ20_indexOfChar_17 rfl ?_
  refine z_icmp_ne 25 C dJ20_indexOfChar_19 (by decide) (fun h0 => ?_) (fun h0 => ?_)
  · refine z_iinc (v := 1) (L2 := [some (.ref (E.2.2.2 20)), some (.int (nI c)), some (.int 0), some (.int 3), some (.int (nI c)), some (.int 1)]) C dJ20_indexOfChar_25 rfl (by decide) rfl ?_
    refine z_goto 7 C dJ20_indexOfChar_28 (by decide) ?_
    refine z_iload C dJ20_indexOfChar_7 rfl ?_
    refine z_iload_n C dJ20_indexOfChar_9 rfl rfl ?_
    refine z_icmp_ge 31 C dJ20_indexOfChar_10 (by decide) (fun h_ => absurd h_ (absurd h_ (by decide))) (fun h_ => ?_)
    refine z_aload_n C dJ20_indexOfChar_13 rfl rfl ?_
    refine z_iload C dJ20_indexOfChar_14 rfl ?_
    refine z_sald 0 (by decide) C dJ20_indexOfChar_16 (v := 108) (by unfold vp_in; decide) (by decide) ?_
    refine z_iload C dJ20_indexOfChar_17 rfl ?_
    refine z_icmp_ne 25 C dJ20_indexOfChar_19 (by decide) (fun h1 => ?_) (fun h1 => ?_)
    · refine z_iinc (v := 2) (L2 := [some (.ref (E.2.2.2 20)), some (.int (nI c)), some (.int 0), some (.int 3), some (.int (nI c)), some (.int 2)]) C dJ20_indexOfChar_25 rfl (by decide) rfl ?_
      refine z_goto 7 C dJ20_indexOfChar_28 (by decide) ?_
      refine z_iload C dJ20_indexOfChar_7 rfl ?_
      refine z_iload_n C dJ20_indexOfChar_9 rfl rfl ?_
      refine z_icmp_ge 31 C dJ20_indexOfChar_10 (by decide) (fun h_ => absurd h_ (absurd h_ (by decide))) (fun h_ => ?_)
      refine z_aload_n C dJ20_indexOfChar_13 rfl rfl ?_
      refine z_iload C dJ20_indexOfChar_14 rfl ?_
      refine z_sald 0 (by decide) C dJ20_indexOfChar_16 (v := 116) (by unfold vp_in; decide) (by decide) ?_
      refine z_iload C dJ20_indexOfChar_17 rfl ?_
      refine z_icmp_ne 25 C dJ20_indexOfChar_19 (by decide) (fun h2 => ?_) (fun h2 => ?_)
      · refine z_iinc (v := 3) (L2 := [some (.ref (E.2.2.2 20)), some (.int (nI c)), some (.int 0), some (.int 3), some (.int (nI c)), some (.int 3)]) C dJ20_indexOfChar_25 rfl (by decide) rfl ?_
        refine z_goto 7 C dJ20_indexOfChar_28 (by decide) ?_
        refine z_iload C dJ20_indexOfChar_7 rfl ?_
        refine z_iload_n C dJ20_indexOfChar_9 rfl rfl ?_
        refine z_icmp_ge 31 C dJ20_indexOfChar_10 (by decide) (fun h_ => ?_) (fun h_ => absurd h_ (absurd (Int32.le_refl _) h_))
        refine z_iconst (v := (-1)) C dJ20_indexOfChar_31 (by decide) ?_
        subst hQ_
        exact z_ret (Γ := []) C dJ20_indexOfChar_32 rfl rfl (Nat.le_of_ble_eq_true rfl) (Nat.le_of_ble_eq_true rfl) ⟨by rw [gIx, if_pos rfl, if_neg h0, if_neg h1, if_neg h2], rfl⟩
      · refine z_iload C dJ20_indexOfChar_22 rfl ?_
        subst hQ_
        exact z_ret (Γ := []) C dJ20_indexOfChar_24 rfl rfl (Nat.le_of_ble_eq_true rfl) (Nat.le_of_ble_eq_true rfl) ⟨by rw [gIx, if_pos rfl, if_neg h0, if_neg h1,  if_pos h2], rfl⟩
    · refine z_iload C dJ20_indexOfChar_22 rfl ?_
      subst hQ_
      exact z_ret (Γ := []) C dJ20_indexOfChar_24 rfl rfl (Nat.le_of_ble_eq_true rfl) (Nat.le_of_ble_eq_true rfl) ⟨by rw [gIx, if_pos rfl, if_neg h0,  if_pos h1], rfl⟩
  · refine z_iload C dJ20_indexOfChar_22 rfl ?_
    subst hQ_
    exact z_ret (Γ := []) C dJ20_indexOfChar_24 rfl rfl (Nat.le_of_ble_eq_true rfl) (Nat.le_of_ble_eq_true rfl) ⟨by rw [gIx, if_pos rfl,  if_pos h0], rfl⟩

set_option maxHeartbeats 4000000 in
theorem m_L1_indexOf0 {l : Launch} (hl : l.stackTraces = false) (E : eEn) (c : Nat) (hc : c < 128) : eMet l E yJ20_indexOf (ws_ yJ20_indexOf cJ20_indexOf 4 (some .int)) ({ frames := 1, cells := 0, slots := 0, locals := 25 }) [.ref (E.2.2.2 20), .int (nI c), .int 0, .int 3] [] (fun v Γ => v = some (.int (gIx 0 (nI c))) ∧ Γ = []) := by
  refine eStart (cc := cJ20_indexOf) (nL := 4) (L := [some (.ref (E.2.2.2 20)), some (.int (nI c)), some (.int 0), some (.int 3)]) hl (by decide) rfl (List.forall_mem_cons.mpr ⟨rfl, (List.forall_mem_cons.mpr ⟨rfl, (List.forall_mem_cons.mpr ⟨rfl, (List.forall_mem_cons.mpr ⟨rfl, (fun _ h => absurd h List.not_mem_nil)⟩)⟩)⟩)⟩) (Nat.le_of_ble_eq_true rfl) ?_
  intro x rs C
  show eZ x E (eQ x E (fun v Γ => v = some (.int (gIx 0 (nI c))) ∧ Γ = []) rs) [rs] 0 [some (.ref (E.2.2.2 20)), some (.int (nI c)), some (.int 0), some (.int 3)] [] 0 0
  generalize hQ_ : eQ x E (fun v Γ => v = some (.int (gIx 0 (nI c))) ∧ Γ = []) rs = Q_
  refine z_iload_n C dJ20_indexOf_0 rfl rfl ?_
  refine z_callS (As := [.int (nI c)]) (rest := []) (Δ := [rs]) [] [0] 1 (m_canEncodeI hl E c hc) C dJ20_indexOf_1 rfl rfl rfl q1607 q1608 q75 q1609 (by decide +kernel) rfl (ePm 1 rfl (by decide +kernel)) rfl rfl ⟨Nat.le_of_ble_eq_true rfl, Nat.le_of_ble_eq_true rfl⟩ (Nat.le_trans eS0 (Nat.le_of_ble_eq_true rfl)) ⟨Nat.le_of_ble_eq_true rfl, Nat.le_of_ble_eq_true rfl⟩ (fun v_ Γ_ hp_ => ?_)
  obtain ⟨rfl, rfl⟩ := hp_
  show eZ x E _ [rs] 4 [some (.ref (E.2.2.2 20)), some (.int (nI c)), some (.int 0), some (.int 3)] [.int 1] 0 0
  refine z_if_ne 9 C dJ20_indexOf_4 (by decide) (fun h_ => ?_) (fun h_ => absurd h_ (absurd h_ (by decide)))
  refine z_iload_n C dJ20_indexOf_9 rfl rfl ?_
  refine z_iconst (v := 0) C dJ20_indexOf_10 (by decide) ?_
  refine z_callS (As := [.int 0, .int 0]) (rest := []) (Δ := [rs]) [] [0] 2 (m_Math_max hl E 0 0) C dJ20_indexOf_11 rfl rfl rfl q1610 q225 q58 q226 (by decide +kernel) rfl (ePm 1 rfl (by decide +kernel)) rfl rfl ⟨Nat.le_of_ble_eq_true rfl, Nat.le_of_ble_eq_true rfl⟩ (Nat.le_trans eS0 (Nat.le_of_ble_eq_true rfl)) ⟨Nat.le_of_ble_eq_true rfl, Nat.le_of_ble_eq_true rfl⟩ (fun v_ Γ_ hp_ => ?_)
  obtain ⟨rfl, rfl⟩ := hp_
  show eZ x E _ [rs] 14 [some (.ref (E.2.2.2 20)), some (.int (nI c)), some (.int 0), some (.int 3)] [.int (eMax 0 0)] 0 0
  refine z_is (w := 0) (by decide) ?_
  refine z_istore_n (L2 := [some (.ref (E.2.2.2 20)), some (.int (nI c)), some (.int 0), some (.int 3)]) C dJ20_indexOf_14 rfl (Nat.le_of_ble_eq_true rfl) rfl ?_
  refine z_iload_n C dJ20_indexOf_15 rfl rfl ?_
  refine z_aload_n C dJ20_indexOf_16 rfl rfl ?_
  refine z_slen 0 (by decide) C dJ20_indexOf_17 (v := 3) (by decide) ?_
  refine z_callS (As := [.int 3, .int 3]) (rest := []) (Δ := [rs]) [] [0] 2 (m_Math_min hl E 3 3) C dJ20_indexOf_18 rfl rfl rfl q1611 q268 q58 q269 (by decide +kernel) rfl (ePm 1 rfl (by decide +kernel)) rfl rfl ⟨Nat.le_of_ble_eq_true rfl, Nat.le_of_ble_eq_true rfl⟩ (Nat.le_trans eS0 (Nat.le_of_ble_eq_true rfl)) ⟨Nat.le_of_ble_eq_true rfl, Nat.le_of_ble_eq_true rfl⟩ (fun v_ Γ_ hp_ => ?_)
  obtain ⟨rfl, rfl⟩ := hp_
  show eZ x E _ [rs] 21 [some (.ref (E.2.2.2 20)), some (.int (nI c)), some (.int 0), some (.int 3)] [.int (eMin 3 3)] 0 0
  refine z_is (w := 3) (by decide) ?_
  refine z_istore_n (L2 := [some (.ref (E.2.2.2 20)), some (.int (nI c)), some (.int 0), some (.int 3)]) C dJ20_indexOf_21 rfl (Nat.le_of_ble_eq_true rfl) rfl ?_
  refine z_iload_n C dJ20_indexOf_22 rfl rfl ?_
  refine z_iload_n C dJ20_indexOf_23 rfl rfl ?_
  refine z_icmp_lt 29 C dJ20_indexOf_24 (by decide) (fun h_ => ?_) (fun h_ => absurd h_ (absurd (by decide) h_))
  refine z_aload_n C dJ20_indexOf_29 rfl rfl ?_
  refine z_iload_n C dJ20_indexOf_30 rfl rfl ?_
  refine z_iload_n C dJ20_indexOf_31 rfl rfl ?_
  refine z_iload_n C dJ20_indexOf_32 rfl rfl ?_
  refine z_callS (As := [.ref (E.2.2.2 20), .int (nI c), .int 0, .int 3]) (rest := []) (Δ := [rs]) [] [0] 4 (m_L1_indexOfChar0 hl E c hc) C dJ20_indexOf_33 rfl rfl rfl q1612 q1613 q75 q1614 (by decide +kernel) rfl (ePm 1 rfl (by decide +kernel)) rfl rfl ⟨Nat.le_of_ble_eq_true rfl, Nat.le_of_ble_eq_true rfl⟩ (Nat.le_trans eS0 (Nat.le_of_ble_eq_true rfl)) ⟨Nat.le_of_ble_eq_true rfl, Nat.le_of_ble_eq_true rfl⟩ (fun v_ Γ_ hp_ => ?_)
  obtain ⟨rfl, rfl⟩ := hp_
  show eZ x E _ [rs] 36 [some (.ref (E.2.2.2 20)), some (.int (nI c)), some (.int 0), some (.int 3)] [.int (gIx 0 (nI c))] 0 0
  subst hQ_
  exact z_ret (Γ := []) C dJ20_indexOf_36 rfl rfl (Nat.le_of_ble_eq_true rfl) (Nat.le_of_ble_eq_true rfl) ⟨rfl, rfl⟩

set_option maxHeartbeats 4000000 in
theorem m_Str0_indexOf2 {l : Launch} (hl : l.stackTraces = false) (E : eEn) (c : Nat) (hc : c < 128) : eMet l E yJ11_indexOf_2 (ws_ yJ11_indexOf_2 cJ11_indexOf_2 3 (some .int)) ({ frames := 2, cells := 0, slots := 0, locals := 48 }) [.ref (E.2.2.2 10), .int (nI c), .int 0] [] (fun v Γ => v = some (.int (gIx 0 (nI c))) ∧ Γ = []) := by
  refine eStart (cc := cJ11_indexOf_2) (nL := 3) (L := [some (.ref (E.2.2.2 10)), some (.int (nI c)), some (.int 0)]) hl (by decide) rfl (List.forall_mem_cons.mpr ⟨rfl, (List.forall_mem_cons.mpr ⟨rfl, (List.forall_mem_cons.mpr ⟨rfl, (fun _ h => absurd h List.not_mem_nil)⟩)⟩)⟩) (Nat.le_of_ble_eq_true rfl) ?_
  intro x rs C
  show eZ x E (eQ x E (fun v Γ => v = some (.int (gIx 0 (nI c))) ∧ Γ = []) rs) [rs] 0 [some (.ref (E.2.2.2 10)), some (.int (nI c)), some (.int 0)] [] 0 0
  generalize hQ_ : eQ x E (fun v Γ => v = some (.int (gIx 0 (nI c))) ∧ Γ = []) rs = Q_
  refine z_aload_n C dJ11_indexOf_2_0 rfl rfl ?_
  refine z_callVs (As := []) (rest := []) (Δ := [rs]) 0 (by decide) [] [0] 0 (m_Str0_isLatin1 hl E) C dJ11_indexOf_2_1 rfl rfl rfl rfl q1599 q1600 q1601 q65 q1602 (by decide +kernel) rfl (ePm 1 rfl (by decide +kernel)) rfl rfl ⟨Nat.le_of_ble_eq_true rfl, Nat.le_of_ble_eq_true rfl⟩ (Nat.le_trans eS0 (Nat.le_of_ble_eq_true rfl)) ⟨Nat.le_of_ble_eq_true rfl, Nat.le_of_ble_eq_true rfl⟩ (fun v_ Γ_ hp_ => ?_)
  obtain ⟨rfl, rfl⟩ := hp_
  show eZ x E _ [rs] 4 [some (.ref (E.2.2.2 10)), some (.int (nI c)), some (.int 0)] [.int 1] 0 0
  refine z_if_eq 23 C dJ11_indexOf_2_4 (by decide) (fun h_ => absurd h_ (absurd h_ (by decide))) (fun h_ => ?_)
  refine z_aload_n C dJ11_indexOf_2_7 rfl rfl ?_
  refine z_sgetV 0 (by decide) C dJ11_indexOf_2_8 rfl q771 ?_
  refine z_iload_n C dJ11_indexOf_2_11 rfl rfl ?_
  refine z_iload_n C dJ11_indexOf_2_12 rfl rfl ?_
  refine z_aload_n C dJ11_indexOf_2_13 rfl rfl ?_
  refine z_callVs (As := []) (rest := [.int 0, .int (nI c), .ref (E.2.2.2 20)]) (Δ := [rs]) 0 (by decide) [] [0] 0 (m_Str0_length hl E) C dJ11_indexOf_2_14 rfl rfl rfl rfl q1603 q679 q680 q65 q681 (by decide +kernel) rfl (ePm 1 rfl (by decide +kernel)) rfl rfl ⟨Nat.le_of_ble_eq_true rfl, Nat.le_of_ble_eq_true rfl⟩ (Nat.le_trans (eSm rfl (eSm rfl (eSm rfl eS0))) (Nat.le_of_ble_eq_true rfl)) ⟨Nat.le_of_ble_eq_true rfl, Nat.le_of_ble_eq_true rfl⟩ (fun v_ Γ_ hp_ => ?_)
  obtain ⟨rfl, rfl⟩ := hp_
  show eZ x E _ [rs] 17 [some (.ref (E.2.2.2 10)), some (.int (nI c)), some (.int 0)] [.int 3, .int 0, .int (nI c), .ref (E.2.2.2 20)] 0 0
  refine z_callS (As := [.ref (E.2.2.2 20), .int (nI c), .int 0, .int 3]) (rest := []) (Δ := [rs]) [] [0] 4 (m_L1_indexOf0 hl E c hc) C dJ11_indexOf_2_17 rfl rfl rfl q1604 q1605 q75 q1606 (by decide +kernel) rfl (ePm 1 rfl (by decide +kernel)) rfl rfl ⟨Nat.le_of_ble_eq_true rfl, Nat.le_of_ble_eq_true rfl⟩ (Nat.le_trans eS0 (Nat.le_of_ble_eq_true rfl)) ⟨Nat.le_of_ble_eq_true rfl, Nat.le_of_ble_eq_true rfl⟩ (fun v_ Γ_ hp_ => ?_)
  obtain ⟨rfl, rfl⟩ := hp_
  show eZ x E _ [rs] 20 [some (.ref (E.2.2.2 10)), some (.int (nI c)), some (.int 0)] [.int (gIx 0 (nI c))] 0 0
  refine z_goto 36 C dJ11_indexOf_2_20 (by decide) ?_
  subst hQ_
  exact z_ret (Γ := []) C dJ11_indexOf_2_36 rfl rfl (Nat.le_of_ble_eq_true rfl) (Nat.le_of_ble_eq_true rfl) ⟨rfl, rfl⟩

set_option maxHeartbeats 4000000 in
theorem m_Str0_indexOf {l : Launch} (hl : l.stackTraces = false) (E : eEn) (c : Nat) (hc : c < 128) : eMet l E yJ11_indexOf (ws_ yJ11_indexOf cJ11_indexOf 2 (some .int)) ({ frames := 3, cells := 0, slots := 0, locals := 70 }) [.ref (E.2.2.2 10), .int (nI c)] [] (fun v Γ => v = some (.int (gIx 0 (nI c))) ∧ Γ = []) := by
  refine eStart (cc := cJ11_indexOf) (nL := 2) (L := [some (.ref (E.2.2.2 10)), some (.int (nI c))]) hl (by decide) rfl (List.forall_mem_cons.mpr ⟨rfl, (List.forall_mem_cons.mpr ⟨rfl, (fun _ h => absurd h List.not_mem_nil)⟩)⟩) (Nat.le_of_ble_eq_true rfl) ?_
  intro x rs C
  show eZ x E (eQ x E (fun v Γ => v = some (.int (gIx 0 (nI c))) ∧ Γ = []) rs) [rs] 0 [some (.ref (E.2.2.2 10)), some (.int (nI c))] [] 0 0
  generalize hQ_ : eQ x E (fun v Γ => v = some (.int (gIx 0 (nI c))) ∧ Γ = []) rs = Q_
  refine z_aload_n C dJ11_indexOf_0 rfl rfl ?_
  refine z_iload_n C dJ11_indexOf_1 rfl rfl ?_
  refine z_iconst (v := 0) C dJ11_indexOf_2 (by decide) ?_
  refine z_callVs (As := [.int (nI c), .int 0]) (rest := []) (Δ := [rs]) 0 (by decide) [] [0] 2 (m_Str0_indexOf2 hl E c hc) C dJ11_indexOf_3 rfl rfl rfl rfl q1595 q1596 q1597 q65 q1598 (by decide +kernel) rfl (ePm 1 rfl (by decide +kernel)) rfl rfl ⟨Nat.le_of_ble_eq_true rfl, Nat.le_of_ble_eq_true rfl⟩ (Nat.le_trans eS0 (Nat.le_of_ble_eq_true rfl)) ⟨Nat.le_of_ble_eq_true rfl, Nat.le_of_ble_eq_true rfl⟩ (fun v_ Γ_ hp_ => ?_)
  obtain ⟨rfl, rfl⟩ := hp_
  show eZ x E _ [rs] 6 [some (.ref (E.2.2.2 10)), some (.int (nI c))] [.int (gIx 0 (nI c))] 0 0
  subst hQ_
  exact z_ret (Γ := []) C dJ11_indexOf_6 rfl rfl (Nat.le_of_ble_eq_true rfl) (Nat.le_of_ble_eq_true rfl) ⟨rfl, rfl⟩

set_option maxHeartbeats 4000000 in
theorem m_Str1_isLatin1 {l : Launch} (hl : l.stackTraces = false) (E : eEn) : eMet l E yJ11_isLatin1 (ws_ yJ11_isLatin1 cJ11_isLatin1 1 (some .boolean)) ({ frames := 0, cells := 0, slots := 0, locals := 0 }) [.ref (E.2.2.2 11)] [] (fun v Γ => v = some (.int 1) ∧ Γ = []) := by
  refine eStart (cc := cJ11_isLatin1) (nL := 1) (L := [some (.ref (E.2.2.2 11))]) hl (by decide) rfl (List.forall_mem_cons.mpr ⟨rfl, (fun _ h => absurd h List.not_mem_nil)⟩) (Nat.le_of_ble_eq_true rfl) ?_
  intro x rs C
  show eZ x E (eQ x E (fun v Γ => v = some (.int 1) ∧ Γ = []) rs) [rs] 0 [some (.ref (E.2.2.2 11))] [] 0 0
  generalize hQ_ : eQ x E (fun v Γ => v = some (.int 1) ∧ Γ = []) rs = Q_
  refine z_getsC C dJ11_isLatin1_0 rfl q686 rfl ?_
  refine z_if_eq 17 C dJ11_isLatin1_3 (by decide) (fun h_ => absurd h_ (by decide)) (fun h_ => ?_)
  refine z_aload_n C dJ11_isLatin1_6 rfl rfl ?_
  refine z_sgetC 1 (by decide) C dJ11_isLatin1_7 rfl q772 ?_
  refine z_if_ne 17 C dJ11_isLatin1_10 (by decide) (fun h_ => absurd h_ (absurd rfl h_)) (fun h_ => ?_)
  refine z_iconst (v := 1) C dJ11_isLatin1_13 (by decide) ?_
  refine z_goto 18 C dJ11_isLatin1_14 (by decide) ?_
  subst hQ_
  exact z_ret (Γ := []) C dJ11_isLatin1_18 rfl (by decide) (Nat.le_of_ble_eq_true rfl) (Nat.le_of_ble_eq_true rfl) ⟨rfl, rfl⟩

set_option maxHeartbeats 4000000 in
theorem m_Str1_coder {l : Launch} (hl : l.stackTraces = false) (E : eEn) : eMet l E yJ11_coder (ws_ yJ11_coder cJ11_coder 1 (some .byte)) ({ frames := 0, cells := 0, slots := 0, locals := 0 }) [.ref (E.2.2.2 11)] [] (fun v Γ => v = some (.int 0) ∧ Γ = []) := by
  refine eStart (cc := cJ11_coder) (nL := 1) (L := [some (.ref (E.2.2.2 11))]) hl (by decide) rfl (List.forall_mem_cons.mpr ⟨rfl, (fun _ h => absurd h List.not_mem_nil)⟩) (Nat.le_of_ble_eq_true rfl) ?_
  intro x rs C
  show eZ x E (eQ x E (fun v Γ => v = some (.int 0) ∧ Γ = []) rs) [rs] 0 [some (.ref (E.2.2.2 11))] [] 0 0
  generalize hQ_ : eQ x E (fun v Γ => v = some (.int 0) ∧ Γ = []) rs = Q_
  refine z_getsC C dJ11_coder_0 rfl q686 rfl ?_
  refine z_if_eq 13 C dJ11_coder_3 (by decide) (fun h_ => absurd h_ (by decide)) (fun h_ => ?_)
  refine z_aload_n C dJ11_coder_6 rfl rfl ?_
  refine z_sgetC 1 (by decide) C dJ11_coder_7 rfl q772 ?_
  refine z_goto 14 C dJ11_coder_10 (by decide) ?_
  subst hQ_
  exact z_ret (Γ := []) C dJ11_coder_14 rfl (by decide) (Nat.le_of_ble_eq_true rfl) (Nat.le_of_ble_eq_true rfl) ⟨rfl, rfl⟩

set_option maxHeartbeats 4000000 in
theorem m_Str1_length {l : Launch} (hl : l.stackTraces = false) (E : eEn) : eMet l E yJ11_length (ws_ yJ11_length cJ11_length 1 (some .int)) ({ frames := 1, cells := 0, slots := 0, locals := 20 }) [.ref (E.2.2.2 11)] [] (fun v Γ => v = some (.int 2) ∧ Γ = []) := by
  refine eStart (cc := cJ11_length) (nL := 1) (L := [some (.ref (E.2.2.2 11))]) hl (by decide) rfl (List.forall_mem_cons.mpr ⟨rfl, (fun _ h => absurd h List.not_mem_nil)⟩) (Nat.le_of_ble_eq_true rfl) ?_
  intro x rs C
  show eZ x E (eQ x E (fun v Γ => v = some (.int 2) ∧ Γ = []) rs) [rs] 0 [some (.ref (E.2.2.2 11))] [] 0 0
  generalize hQ_ : eQ x E (fun v Γ => v = some (.int 2) ∧ Γ = []) rs = Q_
  refine z_aload_n C dJ11_length_0 rfl rfl ?_
  refine z_sgetV 1 (by decide) C dJ11_length_1 rfl q771 ?_
  refine z_slen 1 (by decide) C dJ11_length_4 (v := 2) (by decide) ?_
  refine z_aload_n C dJ11_length_5 rfl rfl ?_
  refine z_callVs (As := []) (rest := [.int 2]) (Δ := [rs]) 1 (by decide) [] [0] 0 (m_Str1_coder hl E) C dJ11_length_6 rfl rfl rfl rfl q682 q683 q684 q65 q685 (by decide +kernel) rfl (ePm 1 rfl (by decide +kernel)) rfl rfl ⟨Nat.le_of_ble_eq_true rfl, Nat.le_of_ble_eq_true rfl⟩ (Nat.le_trans (eSm rfl eS0) (Nat.le_of_ble_eq_true rfl)) ⟨Nat.le_of_ble_eq_true rfl, Nat.le_of_ble_eq_true rfl⟩ (fun v_ Γ_ hp_ => ?_)
  obtain ⟨rfl, rfl⟩ := hp_
  show eZ x E _ [rs] 9 [some (.ref (E.2.2.2 11))] [.int 0, .int 2] 0 0
  refine z_ishr (w := 2) C dJ11_length_9 (by decide) ?_
  subst hQ_
  exact z_ret (Γ := []) C dJ11_length_10 rfl rfl (Nat.le_of_ble_eq_true rfl) (Nat.le_of_ble_eq_true rfl) ⟨rfl, rfl⟩

set_option maxHeartbeats 4000000 in
theorem m_L1_indexOfChar1 {l : Launch} (hl : l.stackTraces = false) (E : eEn) (c : Nat) (hc : c < 128) : eMet l E yJ20_indexOfChar (ws_ yJ20_indexOfChar cJ20_indexOfChar 6 (some .int)) ({ frames := 0, cells := 0, slots := 0, locals := 0 }) [.ref (E.2.2.2 21), .int (nI c), .int 0, .int 2] [] (fun v Γ => v = some (.int (gIx 1 (nI c))) ∧ Γ = []) := by
  refine eStart (cc := cJ20_indexOfChar) (nL := 6) (L := [some (.ref (E.2.2.2 21)), some (.int (nI c)), some (.int 0), some (.int 2), none, none]) hl (by decide) rfl (List.forall_mem_cons.mpr ⟨rfl, (List.forall_mem_cons.mpr ⟨rfl, (List.forall_mem_cons.mpr ⟨rfl, (List.forall_mem_cons.mpr ⟨rfl, (fun _ h => absurd h List.not_mem_nil)⟩)⟩)⟩)⟩) (Nat.le_of_ble_eq_true rfl) ?_
  intro x rs C
  show eZ x E (eQ x E (fun v Γ => v = some (.int (gIx 1 (nI c))) ∧ Γ = []) rs) [rs] 0 [some (.ref (E.2.2.2 21)), some (.int (nI c)), some (.int 0), some (.int 2), none, none] [] 0 0
  generalize hQ_ : eQ x E (fun v Γ => v = some (.int (gIx 1 (nI c))) ∧ Γ = []) rs = Q_
  refine z_iload_n C dJ20_indexOfChar_0 rfl rfl ?_
  refine z_i2b (v := nI c) C dJ20_indexOfChar_1 (eI2b c hc).symm ?_
  refine z_istore (L2 := [some (.ref (E.2.2.2 21)), some (.int (nI c)), some (.int 0), some (.int 2), some (.int (nI c)), none]) C dJ20_indexOfChar_2 (Nat.le_of_ble_eq_true rfl) rfl ?_
  refine z_iload_n C dJ20_indexOfChar_4 rfl rfl ?_
  refine z_istore (L2 := [some (.ref (E.2.2.2 21)), some (.int (nI c)), some (.int 0), some (.int 2), some (.int (nI c)), some (.int 0)]) C dJ20_indexOfChar_5 (Nat.le_of_ble_eq_true rfl) rfl ?_
  refine z_iload C dJ20_indexOfChar_7 rfl ?_
  refine z_iload_n C dJ20_indexOfChar_9 rfl rfl ?_
  refine z_icmp_ge 31 C dJ20_indexOfChar_10 (by decide) (fun h_ => absurd h_ (absurd h_ (by decide))) (fun h_ => ?_)
  refine z_aload_n C dJ20_indexOfChar_13 rfl rfl ?_
  refine z_iload C dJ20_indexOfChar_14 rfl ?_
  refine z_sald 1 (by decide) C dJ20_indexOfChar_16 (v := 99) (by unfold vp_in; decide) (by decide) ?_
  refine z_iload C dJ20_indexOfChar_17 rfl ?_
  refine z_icmp_ne 25 C dJ20_indexOfChar_19 (by decide) (fun h0 => ?_) (fun h0 => ?_)
  · refine z_iinc (v := 1) (L2 := [some (.ref (E.2.2.2 21)), some (.int (nI c)), some (.int 0), some (.int 2), some (.int (nI c)), some (.int 1)]) C dJ20_indexOfChar_25 rfl (by decide) rfl ?_
    refine z_goto 7 C dJ20_indexOfChar_28 (by decide) ?_
    refine z_iload C dJ20_indexOfChar_7 rfl ?_
    refine z_iload_n C dJ20_indexOfChar_9 rfl rfl ?_
    refine z_icmp_ge 31 C dJ20_indexOfChar_10 (by decide) (fun h_ => absurd h_ (absurd h_ (by decide))) (fun h_ => ?_)
    refine z_aload_n C dJ20_indexOfChar_13 rfl rfl ?_
    refine z_iload C dJ20_indexOfChar_14 rfl ?_
    refine z_sald 1 (by decide) C dJ20_indexOfChar_16 (v := 114) (by unfold vp_in; decide) (by decide) ?_
    refine z_iload C dJ20_indexOfChar_17 rfl ?_
    refine z_icmp_ne 25 C dJ20_indexOfChar_19 (by decide) (fun h1 => ?_) (fun h1 => ?_)
    · refine z_iinc (v := 2) (L2 := [some (.ref (E.2.2.2 21)), some (.int (nI c)), some (.int 0), some (.int 2), some (.int (nI c)), some (.int 2)]) C dJ20_indexOfChar_25 rfl (by decide) rfl ?_
      refine z_goto 7 C dJ20_indexOfChar_28 (by decide) ?_
      refine z_iload C dJ20_indexOfChar_7 rfl ?_
      refine z_iload_n C dJ20_indexOfChar_9 rfl rfl ?_
      refine z_icmp_ge 31 C dJ20_indexOfChar_10 (by decide) (fun h_ => ?_) (fun h_ => absurd h_ (absurd (Int32.le_refl _) h_))
      refine z_iconst (v := (-1)) C dJ20_indexOfChar_31 (by decide) ?_
      subst hQ_
      exact z_ret (Γ := []) C dJ20_indexOfChar_32 rfl rfl (Nat.le_of_ble_eq_true rfl) (Nat.le_of_ble_eq_true rfl) ⟨by rw [gIx, if_neg (by decide), if_neg h0, if_neg h1], rfl⟩
    · refine z_iload C dJ20_indexOfChar_22 rfl ?_
      subst hQ_
      exact z_ret (Γ := []) C dJ20_indexOfChar_24 rfl rfl (Nat.le_of_ble_eq_true rfl) (Nat.le_of_ble_eq_true rfl) ⟨by rw [gIx, if_neg (by decide), if_neg h0,  if_pos h1], rfl⟩
  · refine z_iload C dJ20_indexOfChar_22 rfl ?_
    subst hQ_
    exact z_ret (Γ := []) C dJ20_indexOfChar_24 rfl rfl (Nat.le_of_ble_eq_true rfl) (Nat.le_of_ble_eq_true rfl) ⟨by rw [gIx, if_neg (by decide),  if_pos h0], rfl⟩

set_option maxHeartbeats 4000000 in
theorem m_L1_indexOf1 {l : Launch} (hl : l.stackTraces = false) (E : eEn) (c : Nat) (hc : c < 128) : eMet l E yJ20_indexOf (ws_ yJ20_indexOf cJ20_indexOf 4 (some .int)) ({ frames := 1, cells := 0, slots := 0, locals := 25 }) [.ref (E.2.2.2 21), .int (nI c), .int 0, .int 2] [] (fun v Γ => v = some (.int (gIx 1 (nI c))) ∧ Γ = []) := by
  refine eStart (cc := cJ20_indexOf) (nL := 4) (L := [some (.ref (E.2.2.2 21)), some (.int (nI c)), some (.int 0), some (.int 2)]) hl (by decide) rfl (List.forall_mem_cons.mpr ⟨rfl, (List.forall_mem_cons.mpr ⟨rfl, (List.forall_mem_cons.mpr ⟨rfl, (List.forall_mem_cons.mpr ⟨rfl, (fun _ h => absurd h List.not_mem_nil)⟩)⟩)⟩)⟩) (Nat.le_of_ble_eq_true rfl) ?_
  intro x rs C
  show eZ x E (eQ x E (fun v Γ => v = some (.int (gIx 1 (nI c))) ∧ Γ = []) rs) [rs] 0 [some (.ref (E.2.2.2 21)), some (.int (nI c)), some (.int 0), some (.int 2)] [] 0 0
  generalize hQ_ : eQ x E (fun v Γ => v = some (.int (gIx 1 (nI c))) ∧ Γ = []) rs = Q_
  refine z_iload_n C dJ20_indexOf_0 rfl rfl ?_
  refine z_callS (As := [.int (nI c)]) (rest := []) (Δ := [rs]) [] [0] 1 (m_canEncodeI hl E c hc) C dJ20_indexOf_1 rfl rfl rfl q1607 q1608 q75 q1609 (by decide +kernel) rfl (ePm 1 rfl (by decide +kernel)) rfl rfl ⟨Nat.le_of_ble_eq_true rfl, Nat.le_of_ble_eq_true rfl⟩ (Nat.le_trans eS0 (Nat.le_of_ble_eq_true rfl)) ⟨Nat.le_of_ble_eq_true rfl, Nat.le_of_ble_eq_true rfl⟩ (fun v_ Γ_ hp_ => ?_)
  obtain ⟨rfl, rfl⟩ := hp_
  show eZ x E _ [rs] 4 [some (.ref (E.2.2.2 21)), some (.int (nI c)), some (.int 0), some (.int 2)] [.int 1] 0 0
  refine z_if_ne 9 C dJ20_indexOf_4 (by decide) (fun h_ => ?_) (fun h_ => absurd h_ (absurd h_ (by decide)))
  refine z_iload_n C dJ20_indexOf_9 rfl rfl ?_
  refine z_iconst (v := 0) C dJ20_indexOf_10 (by decide) ?_
  refine z_callS (As := [.int 0, .int 0]) (rest := []) (Δ := [rs]) [] [0] 2 (m_Math_max hl E 0 0) C dJ20_indexOf_11 rfl rfl rfl q1610 q225 q58 q226 (by decide +kernel) rfl (ePm 1 rfl (by decide +kernel)) rfl rfl ⟨Nat.le_of_ble_eq_true rfl, Nat.le_of_ble_eq_true rfl⟩ (Nat.le_trans eS0 (Nat.le_of_ble_eq_true rfl)) ⟨Nat.le_of_ble_eq_true rfl, Nat.le_of_ble_eq_true rfl⟩ (fun v_ Γ_ hp_ => ?_)
  obtain ⟨rfl, rfl⟩ := hp_
  show eZ x E _ [rs] 14 [some (.ref (E.2.2.2 21)), some (.int (nI c)), some (.int 0), some (.int 2)] [.int (eMax 0 0)] 0 0
  refine z_is (w := 0) (by decide) ?_
  refine z_istore_n (L2 := [some (.ref (E.2.2.2 21)), some (.int (nI c)), some (.int 0), some (.int 2)]) C dJ20_indexOf_14 rfl (Nat.le_of_ble_eq_true rfl) rfl ?_
  refine z_iload_n C dJ20_indexOf_15 rfl rfl ?_
  refine z_aload_n C dJ20_indexOf_16 rfl rfl ?_
  refine z_slen 1 (by decide) C dJ20_indexOf_17 (v := 2) (by decide) ?_
  refine z_callS (As := [.int 2, .int 2]) (rest := []) (Δ := [rs]) [] [0] 2 (m_Math_min hl E 2 2) C dJ20_indexOf_18 rfl rfl rfl q1611 q268 q58 q269 (by decide +kernel) rfl (ePm 1 rfl (by decide +kernel)) rfl rfl ⟨Nat.le_of_ble_eq_true rfl, Nat.le_of_ble_eq_true rfl⟩ (Nat.le_trans eS0 (Nat.le_of_ble_eq_true rfl)) ⟨Nat.le_of_ble_eq_true rfl, Nat.le_of_ble_eq_true rfl⟩ (fun v_ Γ_ hp_ => ?_)
  obtain ⟨rfl, rfl⟩ := hp_
  show eZ x E _ [rs] 21 [some (.ref (E.2.2.2 21)), some (.int (nI c)), some (.int 0), some (.int 2)] [.int (eMin 2 2)] 0 0
  refine z_is (w := 2) (by decide) ?_
  refine z_istore_n (L2 := [some (.ref (E.2.2.2 21)), some (.int (nI c)), some (.int 0), some (.int 2)]) C dJ20_indexOf_21 rfl (Nat.le_of_ble_eq_true rfl) rfl ?_
  refine z_iload_n C dJ20_indexOf_22 rfl rfl ?_
  refine z_iload_n C dJ20_indexOf_23 rfl rfl ?_
  refine z_icmp_lt 29 C dJ20_indexOf_24 (by decide) (fun h_ => ?_) (fun h_ => absurd h_ (absurd (by decide) h_))
  refine z_aload_n C dJ20_indexOf_29 rfl rfl ?_
  refine z_iload_n C dJ20_indexOf_30 rfl rfl ?_
  refine z_iload_n C dJ20_indexOf_31 rfl rfl ?_
  refine z_iload_n C dJ20_indexOf_32 rfl rfl ?_
  refine z_callS (As := [.ref (E.2.2.2 21), .int (nI c), .int 0, .int 2]) (rest := []) (Δ := [rs]) [] [0] 4 (m_L1_indexOfChar1 hl E c hc) C dJ20_indexOf_33 rfl rfl rfl q1612 q1613 q75 q1614 (by decide +kernel) rfl (ePm 1 rfl (by decide +kernel)) rfl rfl ⟨Nat.le_of_ble_eq_true rfl, Nat.le_of_ble_eq_true rfl⟩ (Nat.le_trans eS0 (Nat.le_of_ble_eq_true rfl)) ⟨Nat.le_of_ble_eq_true rfl, Nat.le_of_ble_eq_true rfl⟩ (fun v_ Γ_ hp_ => ?_)
  obtain ⟨rfl, rfl⟩ := hp_
  show eZ x E _ [rs] 36 [some (.ref (E.2.2.2 21)), some (.int (nI c)), some (.int 0), some (.int 2)] [.int (gIx 1 (nI c))] 0 0
  subst hQ_
  exact z_ret (Γ := []) C dJ20_indexOf_36 rfl rfl (Nat.le_of_ble_eq_true rfl) (Nat.le_of_ble_eq_true rfl) ⟨rfl, rfl⟩

set_option maxHeartbeats 4000000 in
theorem m_Str1_indexOf2 {l : Launch} (hl : l.stackTraces = false) (E : eEn) (c : Nat) (hc : c < 128) : eMet l E yJ11_indexOf_2 (ws_ yJ11_indexOf_2 cJ11_indexOf_2 3 (some .int)) ({ frames := 2, cells := 0, slots := 0, locals := 48 }) [.ref (E.2.2.2 11), .int (nI c), .int 0] [] (fun v Γ => v = some (.int (gIx 1 (nI c))) ∧ Γ = []) := by
  refine eStart (cc := cJ11_indexOf_2) (nL := 3) (L := [some (.ref (E.2.2.2 11)), some (.int (nI c)), some (.int 0)]) hl (by decide) rfl (List.forall_mem_cons.mpr ⟨rfl, (List.forall_mem_cons.mpr ⟨rfl, (List.forall_mem_cons.mpr ⟨rfl, (fun _ h => absurd h List.not_mem_nil)⟩)⟩)⟩) (Nat.le_of_ble_eq_true rfl) ?_
  intro x rs C
  show eZ x E (eQ x E (fun v Γ => v = some (.int (gIx 1 (nI c))) ∧ Γ = []) rs) [rs] 0 [some (.ref (E.2.2.2 11)), some (.int (nI c)), some (.int 0)] [] 0 0
  generalize hQ_ : eQ x E (fun v Γ => v = some (.int (gIx 1 (nI c))) ∧ Γ = []) rs = Q_
  refine z_aload_n C dJ11_indexOf_2_0 rfl rfl ?_
  refine z_callVs (As := []) (rest := []) (Δ := [rs]) 1 (by decide) [] [0] 0 (m_Str1_isLatin1 hl E) C dJ11_indexOf_2_1 rfl rfl rfl rfl q1599 q1600 q1601 q65 q1602 (by decide +kernel) rfl (ePm 1 rfl (by decide +kernel)) rfl rfl ⟨Nat.le_of_ble_eq_true rfl, Nat.le_of_ble_eq_true rfl⟩ (Nat.le_trans eS0 (Nat.le_of_ble_eq_true rfl)) ⟨Nat.le_of_ble_eq_true rfl, Nat.le_of_ble_eq_true rfl⟩ (fun v_ Γ_ hp_ => ?_)
  obtain ⟨rfl, rfl⟩ := hp_
  show eZ x E _ [rs] 4 [some (.ref (E.2.2.2 11)), some (.int (nI c)), some (.int 0)] [.int 1] 0 0
  refine z_if_eq 23 C dJ11_indexOf_2_4 (by decide) (fun h_ => absurd h_ (absurd h_ (by decide))) (fun h_ => ?_)
  refine z_aload_n C dJ11_indexOf_2_7 rfl rfl ?_
  refine z_sgetV 1 (by decide) C dJ11_indexOf_2_8 rfl q771 ?_
  refine z_iload_n C dJ11_indexOf_2_11 rfl rfl ?_
  refine z_iload_n C dJ11_indexOf_2_12 rfl rfl ?_
  refine z_aload_n C dJ11_indexOf_2_13 rfl rfl ?_
  refine z_callVs (As := []) (rest := [.int 0, .int (nI c), .ref (E.2.2.2 21)]) (Δ := [rs]) 1 (by decide) [] [0] 0 (m_Str1_length hl E) C dJ11_indexOf_2_14 rfl rfl rfl rfl q1603 q679 q680 q65 q681 (by decide +kernel) rfl (ePm 1 rfl (by decide +kernel)) rfl rfl ⟨Nat.le_of_ble_eq_true rfl, Nat.le_of_ble_eq_true rfl⟩ (Nat.le_trans (eSm rfl (eSm rfl (eSm rfl eS0))) (Nat.le_of_ble_eq_true rfl)) ⟨Nat.le_of_ble_eq_true rfl, Nat.le_of_ble_eq_true rfl⟩ (fun v_ Γ_ hp_ => ?_)
  obtain ⟨rfl, rfl⟩ := hp_
  show eZ x E _ [rs] 17 [some (.ref (E.2.2.2 11)), some (.int (nI c)), some (.int 0)] [.int 2, .int 0, .int (nI c), .ref (E.2.2.2 21)] 0 0
  refine z_callS (As := [.ref (E.2.2.2 21), .int (nI c), .int 0, .int 2]) (rest := []) (Δ := [rs]) [] [0] 4 (m_L1_indexOf1 hl E c hc) C dJ11_indexOf_2_17 rfl rfl rfl q1604 q1605 q75 q1606 (by decide +kernel) rfl (ePm 1 rfl (by decide +kernel)) rfl rfl ⟨Nat.le_of_ble_eq_true rfl, Nat.le_of_ble_eq_true rfl⟩ (Nat.le_trans eS0 (Nat.le_of_ble_eq_true rfl)) ⟨Nat.le_of_ble_eq_true rfl, Nat.le_of_ble_eq_true rfl⟩ (fun v_ Γ_ hp_ => ?_)
  obtain ⟨rfl, rfl⟩ := hp_
  show eZ x E _ [rs] 20 [some (.ref (E.2.2.2 11)), some (.int (nI c)), some (.int 0)] [.int (gIx 1 (nI c))] 0 0
  refine z_goto 36 C dJ11_indexOf_2_20 (by decide) ?_
  subst hQ_
  exact z_ret (Γ := []) C dJ11_indexOf_2_36 rfl rfl (Nat.le_of_ble_eq_true rfl) (Nat.le_of_ble_eq_true rfl) ⟨rfl, rfl⟩

set_option maxHeartbeats 4000000 in
theorem m_Str1_indexOf {l : Launch} (hl : l.stackTraces = false) (E : eEn) (c : Nat) (hc : c < 128) : eMet l E yJ11_indexOf (ws_ yJ11_indexOf cJ11_indexOf 2 (some .int)) ({ frames := 3, cells := 0, slots := 0, locals := 70 }) [.ref (E.2.2.2 11), .int (nI c)] [] (fun v Γ => v = some (.int (gIx 1 (nI c))) ∧ Γ = []) := by
  refine eStart (cc := cJ11_indexOf) (nL := 2) (L := [some (.ref (E.2.2.2 11)), some (.int (nI c))]) hl (by decide) rfl (List.forall_mem_cons.mpr ⟨rfl, (List.forall_mem_cons.mpr ⟨rfl, (fun _ h => absurd h List.not_mem_nil)⟩)⟩) (Nat.le_of_ble_eq_true rfl) ?_
  intro x rs C
  show eZ x E (eQ x E (fun v Γ => v = some (.int (gIx 1 (nI c))) ∧ Γ = []) rs) [rs] 0 [some (.ref (E.2.2.2 11)), some (.int (nI c))] [] 0 0
  generalize hQ_ : eQ x E (fun v Γ => v = some (.int (gIx 1 (nI c))) ∧ Γ = []) rs = Q_
  refine z_aload_n C dJ11_indexOf_0 rfl rfl ?_
  refine z_iload_n C dJ11_indexOf_1 rfl rfl ?_
  refine z_iconst (v := 0) C dJ11_indexOf_2 (by decide) ?_
  refine z_callVs (As := [.int (nI c), .int 0]) (rest := []) (Δ := [rs]) 1 (by decide) [] [0] 2 (m_Str1_indexOf2 hl E c hc) C dJ11_indexOf_3 rfl rfl rfl rfl q1595 q1596 q1597 q65 q1598 (by decide +kernel) rfl (ePm 1 rfl (by decide +kernel)) rfl rfl ⟨Nat.le_of_ble_eq_true rfl, Nat.le_of_ble_eq_true rfl⟩ (Nat.le_trans eS0 (Nat.le_of_ble_eq_true rfl)) ⟨Nat.le_of_ble_eq_true rfl, Nat.le_of_ble_eq_true rfl⟩ (fun v_ Γ_ hp_ => ?_)
  obtain ⟨rfl, rfl⟩ := hp_
  show eZ x E _ [rs] 6 [some (.ref (E.2.2.2 11)), some (.int (nI c))] [.int (gIx 1 (nI c))] 0 0
  subst hQ_
  exact z_ret (Γ := []) C dJ11_indexOf_6 rfl rfl (Nat.le_of_ble_eq_true rfl) (Nat.le_of_ble_eq_true rfl) ⟨rfl, rfl⟩
