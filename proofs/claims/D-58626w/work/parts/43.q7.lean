/-! ===== ifRun ===== -/
set_option maxRecDepth 100000
def gIfV (A M : Am) (r w : Int32) : Int32 := if w = 0 then r else if w = 1 then M.u.co - A.u.co else if w = 2 then M.u.dk + gCks M - A.u.dk - gCks A else gOfC M 8 - gOfC A 8
def gIfRunQ (A : Am) (n w : Int32) : Int32 := if (eBt n 1 50 && eBt w 0 3) = true then gIfV A (gTicks (nN n) (0, A)).2 (gTicks (nN n) (0, A)).1 w else -1000001

set_option maxHeartbeats 4000000 in
theorem m_ifRun {l : Launch} (hl : l.stackTraces = false) (E : eEn) (s : Sy) (hs : sOk s) (n v : Int32) : eMet l E yX0_ifRun (ws_ yX0_ifRun cX0_ifRun 6 (some .int)) ({ frames := 11, cells := 966, slots := 4900, locals := 217 }) [.ref s.a, .int n, .int v] [eSys E s] (sPost E s (gIfRunQ s.m.abs n v, s.abs)) := by
  refine eStart (cc := cX0_ifRun) (nL := 6) (L := [some (.ref s.a), some (.int n), some (.int v), none, none, none]) hl (by decide) rfl (List.forall_mem_cons.mpr ⟨rfl, (List.forall_mem_cons.mpr ⟨rfl, (List.forall_mem_cons.mpr ⟨rfl, (fun _ h => absurd h List.not_mem_nil)⟩)⟩)⟩) (Nat.le_of_ble_eq_true rfl) ?_
  intro x rs C
  show eZ x E (eQ x E (sPost E s (gIfRunQ s.m.abs n v, s.abs)) rs) [eSys E s, rs] 0 [some (.ref s.a), some (.int n), some (.int v), none, none, none] [] 0 0
  generalize hQ_ : eQ x E (sPost E s (gIfRunQ s.m.abs n v, s.abs)) rs = Q_
  have hs0 := hs
  refine z_iload_n C dX0_ifRun_0 rfl rfl ?_
  refine z_i2l (v := n.toInt64) C dX0_ifRun_1 rfl ?_
  refine z_lconst (v := 1) C dX0_ifRun_2 (by decide) ?_
  refine z_ldc2 C dX0_ifRun_3 rfl q1422 ?_
  refine z_callS (As := [.long n.toInt64, .long 1, .long 50]) (rest := []) (Δ := [eSys E s, rs]) [] [0, 1] 3 (m_bt hl E n 1 50 1 50 (by decide) (by decide)) C dX0_ifRun_6 rfl rfl rfl q986 q987 q49 q988 (by decide +kernel) rfl (ePm 2 rfl (by decide +kernel)) rfl rfl ⟨Nat.le_of_ble_eq_true rfl, Nat.le_of_ble_eq_true rfl⟩ (Nat.le_trans eS0 (Nat.le_of_ble_eq_true rfl)) ⟨Nat.le_of_ble_eq_true rfl, Nat.le_of_ble_eq_true rfl⟩ (fun v_ Γ_ hp_ => ?_)
  obtain ⟨rfl, rfl⟩ := hp_
  show eZ x E _ [eSys E s, rs] 9 [some (.ref s.a), some (.int n), some (.int v), none, none, none] [.int (eB (eBt n 1 50))] 0 0
  refine z_if_eq_B 24 C dX0_ifRun_9 (by decide) (fun hb => ?_) (fun hb => ?_)
  · refine z_ldc C dX0_ifRun_24 rfl q1335 ?_
    subst hQ_
    exact z_ret (Γ := [eSys E s]) C dX0_ifRun_26 rfl rfl (Nat.le_of_ble_eq_true rfl) (Nat.le_of_ble_eq_true rfl) ⟨s, by rw [gIfRunQ, if_neg (by rw [hb]; simp)], rfl, rfl, hs0, rfl⟩
  · refine z_iload_n C dX0_ifRun_12 rfl rfl ?_
    refine z_i2l (v := v.toInt64) C dX0_ifRun_13 rfl ?_
    refine z_lconst (v := 0) C dX0_ifRun_14 (by decide) ?_
    refine z_ldc2 C dX0_ifRun_15 rfl q985 ?_
    refine z_callS (As := [.long v.toInt64, .long 0, .long 3]) (rest := []) (Δ := [eSys E s, rs]) [] [0, 1] 3 (m_bt hl E v 0 3 0 3 (by decide) (by decide)) C dX0_ifRun_18 rfl rfl rfl q986 q987 q49 q988 (by decide +kernel) rfl (ePm 2 rfl (by decide +kernel)) rfl rfl ⟨Nat.le_of_ble_eq_true rfl, Nat.le_of_ble_eq_true rfl⟩ (Nat.le_trans eS0 (Nat.le_of_ble_eq_true rfl)) ⟨Nat.le_of_ble_eq_true rfl, Nat.le_of_ble_eq_true rfl⟩ (fun v_ Γ_ hp_ => ?_)
    obtain ⟨rfl, rfl⟩ := hp_
    show eZ x E _ [eSys E s, rs] 21 [some (.ref s.a), some (.int n), some (.int v), none, none, none] [.int (eB (eBt v 0 3))] 0 0
    refine z_if_ne_B 27 C dX0_ifRun_21 (by decide) (fun hc => ?_) (fun hc => ?_)
    · have hif : (eBt n 1 50 && eBt v 0 3) = true := by rw [hb, hc]; rfl
      have hM50 : nN n ≤ 50 := nN_le (Int32.le_trans (by decide) (of_decide_eq_true hb).1) (of_decide_eq_true hb).2
      have hn : n = nI (nN n) := nI_nN (Int32.le_trans (by decide) (of_decide_eq_true hb).1)
      obtain ⟨hs1, hs2, hs3, hs4, hs5, hs6⟩ := hs
      refine z_cut 0 (bs := [eO s.a 0 [.ref s.m.a, .ref s.dq, .ref s.sb], eMac E s.m, eAD E s.dq s.da s.dh (hA s.hs), eMacs E s.hs, eSB E s.sb s.sv s.sN s.ml s.tx.length s.tf, eSto s.S]) rfl eSys_cut rfl ?_
      show eZ x E _ [eO s.a 0 [.ref s.m.a, .ref s.dq, .ref s.sb], eMac E s.m, eAD E s.dq s.da s.dh (hA s.hs), eMacs E s.hs, eSB E s.sb s.sv s.sN s.ml s.tx.length s.tf, eSto s.S, rs] 27 [some (.ref s.a), some (.int n), some (.int v), none, none, none] [] 0 0
      refine z_new (fs := [.null, .null, .null, .null, .int 0, .int 0, .int 0, .int 0, .int 0, .int 0]) eK1 C dX0_ifRun_27 rfl q101 q102 q50 rfl (Nat.le_of_ble_eq_true rfl) (Nat.le_of_ble_eq_true rfl) (fun o1 => ?_)
      show eZ x E _ [eO s.a 0 [.ref s.m.a, .ref s.dq, .ref s.sb], eMac E s.m, eAD E s.dq s.da s.dh (hA s.hs), eMacs E s.hs, eSB E s.sb s.sv s.sN s.ml s.tx.length s.tf, eSto s.S, rs, eO o1 1 [.null, .null, .null, .null, .int 0, .int 0, .int 0, .int 0, .int 0, .int 0]] 30 [some (.ref s.a), some (.int n), some (.int v), none, none, none] [.ref o1] 1 10
      refine z_dup C dX0_ifRun_30 rfl ?_
      refine z_aload_n C dX0_ifRun_31 rfl rfl ?_
      refine z_get eK0 0 0 C dX0_ifRun_32 rfl rfl q399 (eSame1 rfl) (by decide) rfl ?_
      refine z_callI (As := [.ref s.m.a]) (rest := [.ref o1]) (Δ := [eO s.a 0 [.ref s.m.a, .ref s.dq, .ref s.sb], eAD E s.dq s.da s.dh (hA s.hs), eMacs E s.hs, eSB E s.sb s.sv s.sN s.ml s.tx.length s.tf, rs]) [7, 1, 5] [0, 2, 3, 4, 6] 1 (m_Machine_init2 hl E o1 s.m s.S hs1 hs2) C dX0_ifRun_35 rfl rfl rfl q419 q420 q50 q421 rfl (by decide +kernel) rfl (ePm 8 rfl (by decide +kernel)) rfl rfl ⟨Nat.le_of_ble_eq_true rfl, Nat.le_of_ble_eq_true rfl⟩ (Nat.le_trans (eSm rfl eS0) (Nat.le_of_ble_eq_true rfl)) ⟨Nat.le_of_ble_eq_true rfl, Nat.le_of_ble_eq_true rfl⟩ (fun v_ Γ_ hp_ => ?_)
      obtain ⟨rfl, c2, rfl, hca, hab, hS2⟩ := hp_
      show eZ x E _ [eMac E c2, eMac E s.m, eSto s.S, eO s.a 0 [.ref s.m.a, .ref s.dq, .ref s.sb], eAD E s.dq s.da s.dh (hA s.hs), eMacs E s.hs, eSB E s.sb s.sv s.sN s.ml s.tx.length s.tf, rs] 38 [some (.ref s.a), some (.int n), some (.int v), none, none, none] [.ref o1] 102 469
      subst hca
      show eZ x E _ [eMac E c2, eMac E s.m, eSto s.S, eO s.a 0 [.ref s.m.a, .ref s.dq, .ref s.sb], eAD E s.dq s.da s.dh (hA s.hs), eMacs E s.hs, eSB E s.sb s.sv s.sN s.ml s.tx.length s.tf, rs] 38 [some (.ref s.a), some (.int n), some (.int v), none, none, none] [.ref c2.a] 102 469
      have hok2 : gOk c2.abs := by rw [hab]; exact hs1
      refine z_astore_n (L2 := [some (.ref s.a), some (.int n), some (.int v), some (.ref c2.a), none, none]) C dX0_ifRun_38 rfl (Nat.le_of_ble_eq_true rfl) rfl ?_
      refine z_iconst (v := 0) C dX0_ifRun_39 (by decide) ?_
      refine z_istore (L2 := [some (.ref s.a), some (.int n), some (.int v), some (.ref c2.a), some (.int 0), none]) C dX0_ifRun_40 (Nat.le_of_ble_eq_true rfl) rfl ?_
      refine z_iconst (v := 0) C dX0_ifRun_42 (by decide) ?_
      refine z_istore (L2 := [some (.ref s.a), some (.int n), some (.int v), some (.ref c2.a), some (.int 0), some (.int 0)]) C dX0_ifRun_43 (Nat.le_of_ble_eq_true rfl) rfl ?_
      refine z_pick (Γ' := [eMac E s.m, eO s.a 0 [.ref s.m.a, .ref s.dq, .ref s.sb], eAD E s.dq s.da s.dh (hA s.hs), eMacs E s.hs, eSB E s.sb s.sv s.sN s.ml s.tx.length s.tf, eMac E c2, eSto s.S, rs]) [1, 3, 4, 5, 6, 0, 2, 7] (ePm 8 rfl (by decide +kernel)) rfl ?_
      refine z_join 5 (b := [eMac E s.m, eO s.a 0 [.ref s.m.a, .ref s.dq, .ref s.sb], eAD E s.dq s.da s.dh (hA s.hs), eMacs E s.hs, eSB E s.sb s.sv s.sN s.ml s.tx.length s.tf].flatten) rfl rfl ?_
      show eZ x E _ [[eMac E s.m, eO s.a 0 [.ref s.m.a, .ref s.dq, .ref s.sb], eAD E s.dq s.da s.dh (hA s.hs), eMacs E s.hs, eSB E s.sb s.sv s.sN s.ml s.tx.length s.tf].flatten, eMac E c2, eSto s.S, rs] 45 [some (.ref s.a), some (.int n), some (.int v), some (.ref c2.a), some (.int 0), some (.int 0)] [] 102 469
      obtain ⟨W1, hW1⟩ : ∃ W_, W_ = [eMac E s.m, eO s.a 0 [.ref s.m.a, .ref s.dq, .ref s.sb], eAD E s.dq s.da s.dh (hA s.hs), eMacs E s.hs, eSB E s.sb s.sv s.sN s.ml s.tx.length s.tf].flatten := ⟨_, rfl⟩
      refine z_go (Γ' := [W1, eMac E c2, eSto s.S, rs]) (by rw [← hW1]) ?_
      show eZ x E _ [W1, eMac E c2, eSto s.S, rs] 45 [some (.ref s.a), some (.int n), some (.int v), some (.ref c2.a), some (.int 0), some (.int 0)] [] 102 469
      refine z_pick (Γ' := [eMac E c2, eSto s.S, W1, rs]) [1, 2, 0, 3] (ePm 4 rfl (by decide +kernel)) rfl ?_
      have K : ∀ (d i : Nat) (sm : Int32) (c1 : Cm) (S1 : List (Nat × Enr)), i + d = nN n → gOk c1.abs → eBkS c1 S1 → (∀ z ∈ s.S, z ∈ S1) → c1.a = c2.a → gTicks d (sm, c1.abs) = gTicks (nN n) (0, s.m.abs) → eZ x E Q_ [eMac E c1, eSto S1, W1, rs] 45 [some (.ref s.a), some (.int n), some (.int v), some (.ref c2.a), some (.int sm), some (.int (nI i))] [] (102 + 17 * i) (469 + 88 * i) := by
        intro d
        induction d with
        | zero =>
            intro i sm c1 S1 hi hok1 hS1 hSS ha hR
            obtain rfl : i = nN n := by omega
            refine z_iload C dX0_ifRun_45 rfl ?_
            refine z_iload_n C dX0_ifRun_47 rfl rfl ?_
            refine z_icmp_ge 66 C dX0_ifRun_48 (by decide) (fun h1 => ?_) (fun h1 => ?_)
            · refine z_cut 2 (bs := [eMac E s.m, eO s.a 0 [.ref s.m.a, .ref s.dq, .ref s.sb], eAD E s.dq s.da s.dh (hA s.hs), eMacs E s.hs, eSB E s.sb s.sv s.sN s.ml s.tx.length s.tf]) rfl hW1 rfl ?_
              show eZ x E _ [eMac E c1, eSto S1, eMac E s.m, eO s.a 0 [.ref s.m.a, .ref s.dq, .ref s.sb], eAD E s.dq s.da s.dh (hA s.hs), eMacs E s.hs, eSB E s.sb s.sv s.sN s.ml s.tx.length s.tf, rs] 66 [some (.ref s.a), some (.int n), some (.int v), some (.ref c2.a), some (.int sm), some (.int (nI (nN n)))] [] (102 + 17 * (nN n)) (469 + 88 * (nN n))
              rw [← ha]
              show eZ x E _ [eMac E c1, eSto S1, eMac E s.m, eO s.a 0 [.ref s.m.a, .ref s.dq, .ref s.sb], eAD E s.dq s.da s.dh (hA s.hs), eMacs E s.hs, eSB E s.sb s.sv s.sN s.ml s.tx.length s.tf, rs] 66 [some (.ref s.a), some (.int n), some (.int v), some (.ref c1.a), some (.int sm), some (.int (nI (nN n)))] [] (102 + 17 * (nN n)) (469 + 88 * (nN n))
              refine z_cut 0 (bs := [eO c1.a 1 [.ref c1.la, .ref c1.ca, .ref c1.ba, .ref c1.sa, .int c1.u.tk, .int c1.u.cm, .int c1.u.dk, .int c1.u.co, .int c1.u.wt, .int c1.u.lk], eAL E c1.la c1.lq c1.lm (lA c1.lns), eLans 0 c1.lns, eAL E c1.ca c1.cq c1.cm (kA c1.crs), eCrs c1.crs, eLL c1.ba c1.bm (bX c1.bk), eIA E c1.sa 4 c1.st]) rfl eMac_cut rfl ?_
              show eZ x E _ [eO c1.a 1 [.ref c1.la, .ref c1.ca, .ref c1.ba, .ref c1.sa, .int c1.u.tk, .int c1.u.cm, .int c1.u.dk, .int c1.u.co, .int c1.u.wt, .int c1.u.lk], eAL E c1.la c1.lq c1.lm (lA c1.lns), eLans 0 c1.lns, eAL E c1.ca c1.cq c1.cm (kA c1.crs), eCrs c1.crs, eLL c1.ba c1.bm (bX c1.bk), eIA E c1.sa 4 c1.st, eSto S1, eMac E s.m, eO s.a 0 [.ref s.m.a, .ref s.dq, .ref s.sb], eAD E s.dq s.da s.dh (hA s.hs), eMacs E s.hs, eSB E s.sb s.sv s.sN s.ml s.tx.length s.tf, rs] 66 [some (.ref s.a), some (.int n), some (.int v), some (.ref c1.a), some (.int sm), some (.int (nI (nN n)))] [] (102 + 17 * (nN n)) (469 + 88 * (nN n))
              refine z_aload_n C dX0_ifRun_66 rfl rfl ?_
              refine z_getN eK1 0 6 C dX0_ifRun_67 rfl rfl q320 (eSame1 rfl) (by decide) rfl ?_
              refine z_aload_n C dX0_ifRun_70 rfl rfl ?_
              refine z_pick (Γ' := [eO c1.a 1 [.ref c1.la, .ref c1.ca, .ref c1.ba, .ref c1.sa, .int c1.u.tk, .int c1.u.cm, .int c1.u.dk, .int c1.u.co, .int c1.u.wt, .int c1.u.lk], eAL E c1.la c1.lq c1.lm (lA c1.lns), eLans 0 c1.lns, eAL E c1.ca c1.cq c1.cm (kA c1.crs), eCrs c1.crs, eLL c1.ba c1.bm (bX c1.bk), eIA E c1.sa 4 c1.st, eSto S1, eMac E s.m, eO s.a 0 [.ref s.m.a, .ref s.dq, .ref s.sb], eAD E s.dq s.da s.dh (hA s.hs), eMacs E s.hs, eSB E s.sb s.sv s.sN s.ml s.tx.length s.tf, rs]) [0, 1, 2, 3, 4, 5, 6, 7, 8, 9, 10, 11, 12, 13] (ePm 14 rfl (by decide +kernel)) rfl ?_
              refine z_join 7 (b := eMac E c1) eMac_cut.symm rfl ?_
              show eZ x E _ [eMac E c1, eSto S1, eMac E s.m, eO s.a 0 [.ref s.m.a, .ref s.dq, .ref s.sb], eAD E s.dq s.da s.dh (hA s.hs), eMacs E s.hs, eSB E s.sb s.sv s.sN s.ml s.tx.length s.tf, rs] 71 [some (.ref s.a), some (.int n), some (.int v), some (.ref c1.a), some (.int sm), some (.int (nI (nN n)))] [.ref c1.a, .int c1.u.dk] (102 + 17 * (nN n)) (469 + 88 * (nN n))
              refine z_callV (r := (RX1, TX1, 10)) (As := []) (rest := [.int c1.u.dk]) (Δ := [eSto S1, eMac E s.m, eO s.a 0 [.ref s.m.a, .ref s.dq, .ref s.sb], eAD E s.dq s.da s.dh (hA s.hs), eMacs E s.hs, eSB E s.sb s.sv s.sN s.ml s.tx.length s.tf, rs]) [0] [1, 2, 3, 4, 5, 6, 7] 0 (m_cracked hl E c1 hok1) C dX0_ifRun_71 rfl rfl (eIn (i := 0) rfl eMac_mem) rfl rfl q1424 q1425 q1426 q50 q1427 (by decide +kernel) rfl (ePm 8 rfl (by decide +kernel)) rfl rfl ⟨Nat.le_of_ble_eq_true rfl, Nat.le_of_ble_eq_true rfl⟩ (Nat.le_trans (eSm rfl eS0) (Nat.le_of_ble_eq_true rfl)) ⟨by first | omega | (dsimp only; omega), by first | omega | (dsimp only; omega)⟩ (fun v_ Γ_ hp_ => ?_)
              obtain ⟨rfl, rfl⟩ := hp_
              show eZ x E _ [eMac E c1, eSto S1, eMac E s.m, eO s.a 0 [.ref s.m.a, .ref s.dq, .ref s.sb], eAD E s.dq s.da s.dh (hA s.hs), eMacs E s.hs, eSB E s.sb s.sv s.sN s.ml s.tx.length s.tf, rs] 74 [some (.ref s.a), some (.int n), some (.int v), some (.ref c1.a), some (.int sm), some (.int (nI (nN n)))] [.int (gCks c1.abs), .int c1.u.dk] ((102 + 17 * (nN n)) + 1) ((469 + 88 * (nN n)) + 4)
              refine z_iadd (w := c1.u.dk + (gCks c1.abs)) C dX0_ifRun_74 rfl ?_
              refine z_aload_n C dX0_ifRun_75 rfl rfl ?_
              refine z_get eK0 3 0 C dX0_ifRun_76 rfl rfl q399 (eSame1 rfl) (by decide) rfl ?_
              refine z_cut 2 (bs := [eO s.m.a 1 [.ref s.m.la, .ref s.m.ca, .ref s.m.ba, .ref s.m.sa, .int s.m.u.tk, .int s.m.u.cm, .int s.m.u.dk, .int s.m.u.co, .int s.m.u.wt, .int s.m.u.lk], eAL E s.m.la s.m.lq s.m.lm (lA s.m.lns), eLans 0 s.m.lns, eAL E s.m.ca s.m.cq s.m.cm (kA s.m.crs), eCrs s.m.crs, eLL s.m.ba s.m.bm (bX s.m.bk), eIA E s.m.sa 4 s.m.st]) rfl eMac_cut rfl ?_
              show eZ x E _ [eMac E c1, eSto S1, eO s.m.a 1 [.ref s.m.la, .ref s.m.ca, .ref s.m.ba, .ref s.m.sa, .int s.m.u.tk, .int s.m.u.cm, .int s.m.u.dk, .int s.m.u.co, .int s.m.u.wt, .int s.m.u.lk], eAL E s.m.la s.m.lq s.m.lm (lA s.m.lns), eLans 0 s.m.lns, eAL E s.m.ca s.m.cq s.m.cm (kA s.m.crs), eCrs s.m.crs, eLL s.m.ba s.m.bm (bX s.m.bk), eIA E s.m.sa 4 s.m.st, eO s.a 0 [.ref s.m.a, .ref s.dq, .ref s.sb], eAD E s.dq s.da s.dh (hA s.hs), eMacs E s.hs, eSB E s.sb s.sv s.sN s.ml s.tx.length s.tf, rs] 79 [some (.ref s.a), some (.int n), some (.int v), some (.ref c1.a), some (.int sm), some (.int (nI (nN n)))] [.ref s.m.a, .int (c1.u.dk + (gCks c1.abs))] ((102 + 17 * (nN n)) + 1) ((469 + 88 * (nN n)) + 4)
              refine z_getN eK1 2 6 C dX0_ifRun_79 rfl rfl q320 (eSame1 rfl) (by decide) rfl ?_
              refine z_isub (w := (c1.u.dk + (gCks c1.abs)) - s.m.u.dk) C dX0_ifRun_82 rfl ?_
              refine z_aload_n C dX0_ifRun_83 rfl rfl ?_
              refine z_get eK0 9 0 C dX0_ifRun_84 rfl rfl q399 (eSame1 rfl) (by decide) rfl ?_
              refine z_pick (Γ' := [eO s.m.a 1 [.ref s.m.la, .ref s.m.ca, .ref s.m.ba, .ref s.m.sa, .int s.m.u.tk, .int s.m.u.cm, .int s.m.u.dk, .int s.m.u.co, .int s.m.u.wt, .int s.m.u.lk], eAL E s.m.la s.m.lq s.m.lm (lA s.m.lns), eLans 0 s.m.lns, eAL E s.m.ca s.m.cq s.m.cm (kA s.m.crs), eCrs s.m.crs, eLL s.m.ba s.m.bm (bX s.m.bk), eIA E s.m.sa 4 s.m.st, eMac E c1, eSto S1, eO s.a 0 [.ref s.m.a, .ref s.dq, .ref s.sb], eAD E s.dq s.da s.dh (hA s.hs), eMacs E s.hs, eSB E s.sb s.sv s.sN s.ml s.tx.length s.tf, rs]) [2, 3, 4, 5, 6, 7, 8, 0, 1, 9, 10, 11, 12, 13] (ePm 14 rfl (by decide +kernel)) rfl ?_
              refine z_join 7 (b := eMac E s.m) eMac_cut.symm rfl ?_
              show eZ x E _ [eMac E s.m, eMac E c1, eSto S1, eO s.a 0 [.ref s.m.a, .ref s.dq, .ref s.sb], eAD E s.dq s.da s.dh (hA s.hs), eMacs E s.hs, eSB E s.sb s.sv s.sN s.ml s.tx.length s.tf, rs] 87 [some (.ref s.a), some (.int n), some (.int v), some (.ref c1.a), some (.int sm), some (.int (nI (nN n)))] [.ref s.m.a, .int ((c1.u.dk + (gCks c1.abs)) - s.m.u.dk)] ((102 + 17 * (nN n)) + 1) ((469 + 88 * (nN n)) + 4)
              refine z_callV (r := (RX1, TX1, 10)) (As := []) (rest := [.int ((c1.u.dk + (gCks c1.abs)) - s.m.u.dk)]) (Δ := [eMac E c1, eSto S1, eO s.a 0 [.ref s.m.a, .ref s.dq, .ref s.sb], eAD E s.dq s.da s.dh (hA s.hs), eMacs E s.hs, eSB E s.sb s.sv s.sN s.ml s.tx.length s.tf, rs]) [0] [1, 2, 3, 4, 5, 6, 7] 0 (m_cracked hl E s.m hs1) C dX0_ifRun_87 rfl rfl (eIn (i := 0) rfl eMac_mem) rfl rfl q1424 q1425 q1426 q50 q1427 (by decide +kernel) rfl (ePm 8 rfl (by decide +kernel)) rfl rfl ⟨Nat.le_of_ble_eq_true rfl, Nat.le_of_ble_eq_true rfl⟩ (Nat.le_trans (eSm rfl eS0) (Nat.le_of_ble_eq_true rfl)) ⟨by first | omega | (dsimp only; omega), by first | omega | (dsimp only; omega)⟩ (fun v_ Γ_ hp_ => ?_)
              obtain ⟨rfl, rfl⟩ := hp_
              show eZ x E _ [eMac E s.m, eMac E c1, eSto S1, eO s.a 0 [.ref s.m.a, .ref s.dq, .ref s.sb], eAD E s.dq s.da s.dh (hA s.hs), eMacs E s.hs, eSB E s.sb s.sv s.sN s.ml s.tx.length s.tf, rs] 90 [some (.ref s.a), some (.int n), some (.int v), some (.ref c1.a), some (.int sm), some (.int (nI (nN n)))] [.int (gCks s.m.abs), .int ((c1.u.dk + (gCks c1.abs)) - s.m.u.dk)] (((102 + 17 * (nN n)) + 1) + 1) (((469 + 88 * (nN n)) + 4) + 4)
              refine z_isub (w := ((c1.u.dk + (gCks c1.abs)) - s.m.u.dk) - (gCks s.m.abs)) C dX0_ifRun_90 rfl ?_
              refine z_istore (L2 := [some (.ref s.a), some (.int n), some (.int v), some (.ref c1.a), some (.int sm), some (.int (((c1.u.dk + (gCks c1.abs)) - s.m.u.dk) - (gCks s.m.abs)))]) C dX0_ifRun_91 (Nat.le_of_ble_eq_true rfl) rfl ?_
              refine z_iload_n C dX0_ifRun_93 rfl rfl ?_
              have hR2 : gTicks (nN n) (0, s.m.abs) = (sm, c1.abs) := hR.symm
              refine z_if_ne 102 C dX0_ifRun_94 (by decide) (fun g0 => ?_) (fun g0 => ?_)
              · refine z_iload_n C dX0_ifRun_102 rfl rfl ?_
                refine z_iconst (v := 1) C dX0_ifRun_103 (by decide) ?_
                refine z_icmp_ne 122 C dX0_ifRun_104 (by decide) (fun g1 => ?_) (fun g1 => ?_)
                · refine z_iload_n C dX0_ifRun_122 rfl rfl ?_
                  refine z_iconst (v := 2) C dX0_ifRun_123 (by decide) ?_
                  refine z_icmp_ne 132 C dX0_ifRun_124 (by decide) (fun g2 => ?_) (fun g2 => ?_)
                  · refine z_aload_n C dX0_ifRun_132 rfl rfl ?_
                    refine z_bipush (v := 8) C dX0_ifRun_133 (by decide) ?_
                    refine z_callS (As := [.ref c1.a, .int 8]) (rest := []) (Δ := [eMac E s.m, eSto S1, eO s.a 0 [.ref s.m.a, .ref s.dq, .ref s.sb], eAD E s.dq s.da s.dh (hA s.hs), eMacs E s.hs, eSB E s.sb s.sv s.sN s.ml s.tx.length s.tf, rs]) [1] [0, 2, 3, 4, 5, 6, 7] 2 (m_ofCrates hl E c1 hok1 8) C dX0_ifRun_135 rfl rfl rfl q1428 q1429 q49 q1430 (by decide +kernel) rfl (ePm 8 rfl (by decide +kernel)) rfl rfl ⟨Nat.le_of_ble_eq_true rfl, Nat.le_of_ble_eq_true rfl⟩ (Nat.le_trans eS0 (Nat.le_of_ble_eq_true rfl)) ⟨by first | omega | (dsimp only; omega), by first | omega | (dsimp only; omega)⟩ (fun v_ Γ_ hp_ => ?_)
                    obtain ⟨rfl, rfl⟩ := hp_
                    show eZ x E _ [eMac E c1, eMac E s.m, eSto S1, eO s.a 0 [.ref s.m.a, .ref s.dq, .ref s.sb], eAD E s.dq s.da s.dh (hA s.hs), eMacs E s.hs, eSB E s.sb s.sv s.sN s.ml s.tx.length s.tf, rs] 138 [some (.ref s.a), some (.int n), some (.int v), some (.ref c1.a), some (.int sm), some (.int (((c1.u.dk + (gCks c1.abs)) - s.m.u.dk) - (gCks s.m.abs)))] [.int (gOfC c1.abs 8)] ((((102 + 17 * (nN n)) + 1) + 1) + 1) ((((469 + 88 * (nN n)) + 4) + 4) + 4)
                    refine z_aload_n C dX0_ifRun_138 rfl rfl ?_
                    refine z_get eK0 3 0 C dX0_ifRun_139 rfl rfl q399 (eSame1 rfl) (by decide) rfl ?_
                    refine z_bipush (v := 8) C dX0_ifRun_142 (by decide) ?_
                    refine z_callS (As := [.ref s.m.a, .int 8]) (rest := [.int (gOfC c1.abs 8)]) (Δ := [eMac E c1, eSto S1, eO s.a 0 [.ref s.m.a, .ref s.dq, .ref s.sb], eAD E s.dq s.da s.dh (hA s.hs), eMacs E s.hs, eSB E s.sb s.sv s.sN s.ml s.tx.length s.tf, rs]) [1] [0, 2, 3, 4, 5, 6, 7] 2 (m_ofCrates hl E s.m hs1 8) C dX0_ifRun_144 rfl rfl rfl q1428 q1429 q49 q1430 (by decide +kernel) rfl (ePm 8 rfl (by decide +kernel)) rfl rfl ⟨Nat.le_of_ble_eq_true rfl, Nat.le_of_ble_eq_true rfl⟩ (Nat.le_trans (eSm rfl eS0) (Nat.le_of_ble_eq_true rfl)) ⟨by first | omega | (dsimp only; omega), by first | omega | (dsimp only; omega)⟩ (fun v_ Γ_ hp_ => ?_)
                    obtain ⟨rfl, rfl⟩ := hp_
                    show eZ x E _ [eMac E s.m, eMac E c1, eSto S1, eO s.a 0 [.ref s.m.a, .ref s.dq, .ref s.sb], eAD E s.dq s.da s.dh (hA s.hs), eMacs E s.hs, eSB E s.sb s.sv s.sN s.ml s.tx.length s.tf, rs] 147 [some (.ref s.a), some (.int n), some (.int v), some (.ref c1.a), some (.int sm), some (.int (((c1.u.dk + (gCks c1.abs)) - s.m.u.dk) - (gCks s.m.abs)))] [.int (gOfC s.m.abs 8), .int (gOfC c1.abs 8)] (((((102 + 17 * (nN n)) + 1) + 1) + 1) + 1) (((((469 + 88 * (nN n)) + 4) + 4) + 4) + 4)
                    refine z_isub (w := (gOfC c1.abs 8) - (gOfC s.m.abs 8)) C dX0_ifRun_147 rfl ?_
                    refine z_pick (Γ' := [eO s.a 0 [.ref s.m.a, .ref s.dq, .ref s.sb], eMac E s.m, eAD E s.dq s.da s.dh (hA s.hs), eMacs E s.hs, eSB E s.sb s.sv s.sN s.ml s.tx.length s.tf, eSto S1, eMac E c1, rs]) [3, 0, 4, 5, 6, 2, 1, 7] (ePm 8 rfl (by decide +kernel)) rfl ?_
                    refine z_join 6 (b := eSys E (s.a, s.m, s.dq, s.da, s.dh, s.hs, s.sb, s.sv, s.sN, s.ml, s.tx, s.tf, S1)) (by rw [eSys_cut]; rfl) rfl ?_
                    show eZ x E _ [eSys E (s.a, s.m, s.dq, s.da, s.dh, s.hs, s.sb, s.sv, s.sN, s.ml, s.tx, s.tf, S1), eMac E c1, rs] 148 [some (.ref s.a), some (.int n), some (.int v), some (.ref c1.a), some (.int sm), some (.int (((c1.u.dk + (gCks c1.abs)) - s.m.u.dk) - (gCks s.m.abs)))] [.int ((gOfC c1.abs 8) - (gOfC s.m.abs 8))] (((((102 + 17 * (nN n)) + 1) + 1) + 1) + 1) (((((469 + 88 * (nN n)) + 4) + 4) + 4) + 4)
                    refine z_pick (Γ' := [eMac E c1, eSys E (s.a, s.m, s.dq, s.da, s.dh, s.hs, s.sb, s.sv, s.sN, s.ml, s.tx, s.tf, S1), rs]) [1, 0, 2] (ePm 3 rfl (by decide +kernel)) rfl ?_
                    refine z_drop ?_
                    show eZ x E _ [eSys E (s.a, s.m, s.dq, s.da, s.dh, s.hs, s.sb, s.sv, s.sN, s.ml, s.tx, s.tf, S1), rs] 148 [some (.ref s.a), some (.int n), some (.int v), some (.ref c1.a), some (.int sm), some (.int (((c1.u.dk + (gCks c1.abs)) - s.m.u.dk) - (gCks s.m.abs)))] [.int ((gOfC c1.abs 8) - (gOfC s.m.abs 8))] (((((102 + 17 * (nN n)) + 1) + 1) + 1) + 1) (((((469 + 88 * (nN n)) + 4) + 4) + 4) + 4)
                    subst hQ_
                    exact z_ret (Γ := [eSys E (s.a, s.m, s.dq, s.da, s.dh, s.hs, s.sb, s.sv, s.sN, s.ml, s.tx, s.tf, S1)]) C dX0_ifRun_148 rfl rfl (by (try dsimp only); omega) (by (try dsimp only); omega) ⟨(s.a, s.m, s.dq, s.da, s.dh, s.hs, s.sb, s.sv, s.sN, s.ml, s.tx, s.tf, S1), by rw [gIfRunQ, if_pos hif, hR2]; show _ = some (Value.int (gIfV s.m.abs c1.abs sm v)); rw [gIfV, if_neg g0, if_neg g1, if_neg g2]; try rfl, rfl, rfl, ⟨hs1, fun z hz => hSS _ (hs2 z hz), fun h hh => ⟨(hs3 h hh).1, fun z hz => hSS _ ((hs3 h hh).2 z hz)⟩, hs4, hs5, hs6⟩, rfl⟩
                  · refine z_iload C dX0_ifRun_127 rfl ?_
                    refine z_goto 148 C dX0_ifRun_129 (by decide) ?_
                    refine z_pick (Γ' := [eO s.a 0 [.ref s.m.a, .ref s.dq, .ref s.sb], eMac E s.m, eAD E s.dq s.da s.dh (hA s.hs), eMacs E s.hs, eSB E s.sb s.sv s.sN s.ml s.tx.length s.tf, eSto S1, eMac E c1, rs]) [3, 0, 4, 5, 6, 2, 1, 7] (ePm 8 rfl (by decide +kernel)) rfl ?_
                    refine z_join 6 (b := eSys E (s.a, s.m, s.dq, s.da, s.dh, s.hs, s.sb, s.sv, s.sN, s.ml, s.tx, s.tf, S1)) (by rw [eSys_cut]; rfl) rfl ?_
                    show eZ x E _ [eSys E (s.a, s.m, s.dq, s.da, s.dh, s.hs, s.sb, s.sv, s.sN, s.ml, s.tx, s.tf, S1), eMac E c1, rs] 148 [some (.ref s.a), some (.int n), some (.int v), some (.ref c1.a), some (.int sm), some (.int (((c1.u.dk + (gCks c1.abs)) - s.m.u.dk) - (gCks s.m.abs)))] [.int (((c1.u.dk + (gCks c1.abs)) - s.m.u.dk) - (gCks s.m.abs))] (((102 + 17 * (nN n)) + 1) + 1) (((469 + 88 * (nN n)) + 4) + 4)
                    refine z_pick (Γ' := [eMac E c1, eSys E (s.a, s.m, s.dq, s.da, s.dh, s.hs, s.sb, s.sv, s.sN, s.ml, s.tx, s.tf, S1), rs]) [1, 0, 2] (ePm 3 rfl (by decide +kernel)) rfl ?_
                    refine z_drop ?_
                    show eZ x E _ [eSys E (s.a, s.m, s.dq, s.da, s.dh, s.hs, s.sb, s.sv, s.sN, s.ml, s.tx, s.tf, S1), rs] 148 [some (.ref s.a), some (.int n), some (.int v), some (.ref c1.a), some (.int sm), some (.int (((c1.u.dk + (gCks c1.abs)) - s.m.u.dk) - (gCks s.m.abs)))] [.int (((c1.u.dk + (gCks c1.abs)) - s.m.u.dk) - (gCks s.m.abs))] (((102 + 17 * (nN n)) + 1) + 1) (((469 + 88 * (nN n)) + 4) + 4)
                    subst hQ_
                    exact z_ret (Γ := [eSys E (s.a, s.m, s.dq, s.da, s.dh, s.hs, s.sb, s.sv, s.sN, s.ml, s.tx, s.tf, S1)]) C dX0_ifRun_148 rfl rfl (by (try dsimp only); omega) (by (try dsimp only); omega) ⟨(s.a, s.m, s.dq, s.da, s.dh, s.hs, s.sb, s.sv, s.sN, s.ml, s.tx, s.tf, S1), by rw [gIfRunQ, if_pos hif, hR2]; show _ = some (Value.int (gIfV s.m.abs c1.abs sm v)); rw [gIfV, if_neg g0, if_neg g1, if_pos g2]; try rfl, rfl, rfl, ⟨hs1, fun z hz => hSS _ (hs2 z hz), fun h hh => ⟨(hs3 h hh).1, fun z hz => hSS _ ((hs3 h hh).2 z hz)⟩, hs4, hs5, hs6⟩, rfl⟩
                · refine z_cut 1 (bs := [eO c1.a 1 [.ref c1.la, .ref c1.ca, .ref c1.ba, .ref c1.sa, .int c1.u.tk, .int c1.u.cm, .int c1.u.dk, .int c1.u.co, .int c1.u.wt, .int c1.u.lk], eAL E c1.la c1.lq c1.lm (lA c1.lns), eLans 0 c1.lns, eAL E c1.ca c1.cq c1.cm (kA c1.crs), eCrs c1.crs, eLL c1.ba c1.bm (bX c1.bk), eIA E c1.sa 4 c1.st]) rfl eMac_cut rfl ?_
                  show eZ x E _ [eMac E s.m, eO c1.a 1 [.ref c1.la, .ref c1.ca, .ref c1.ba, .ref c1.sa, .int c1.u.tk, .int c1.u.cm, .int c1.u.dk, .int c1.u.co, .int c1.u.wt, .int c1.u.lk], eAL E c1.la c1.lq c1.lm (lA c1.lns), eLans 0 c1.lns, eAL E c1.ca c1.cq c1.cm (kA c1.crs), eCrs c1.crs, eLL c1.ba c1.bm (bX c1.bk), eIA E c1.sa 4 c1.st, eSto S1, eO s.a 0 [.ref s.m.a, .ref s.dq, .ref s.sb], eAD E s.dq s.da s.dh (hA s.hs), eMacs E s.hs, eSB E s.sb s.sv s.sN s.ml s.tx.length s.tf, rs] 107 [some (.ref s.a), some (.int n), some (.int v), some (.ref c1.a), some (.int sm), some (.int (((c1.u.dk + (gCks c1.abs)) - s.m.u.dk) - (gCks s.m.abs)))] [] (((102 + 17 * (nN n)) + 1) + 1) (((469 + 88 * (nN n)) + 4) + 4)
                  refine z_cut 0 (bs := [eO s.m.a 1 [.ref s.m.la, .ref s.m.ca, .ref s.m.ba, .ref s.m.sa, .int s.m.u.tk, .int s.m.u.cm, .int s.m.u.dk, .int s.m.u.co, .int s.m.u.wt, .int s.m.u.lk], eAL E s.m.la s.m.lq s.m.lm (lA s.m.lns), eLans 0 s.m.lns, eAL E s.m.ca s.m.cq s.m.cm (kA s.m.crs), eCrs s.m.crs, eLL s.m.ba s.m.bm (bX s.m.bk), eIA E s.m.sa 4 s.m.st]) rfl eMac_cut rfl ?_
                  show eZ x E _ [eO s.m.a 1 [.ref s.m.la, .ref s.m.ca, .ref s.m.ba, .ref s.m.sa, .int s.m.u.tk, .int s.m.u.cm, .int s.m.u.dk, .int s.m.u.co, .int s.m.u.wt, .int s.m.u.lk], eAL E s.m.la s.m.lq s.m.lm (lA s.m.lns), eLans 0 s.m.lns, eAL E s.m.ca s.m.cq s.m.cm (kA s.m.crs), eCrs s.m.crs, eLL s.m.ba s.m.bm (bX s.m.bk), eIA E s.m.sa 4 s.m.st, eO c1.a 1 [.ref c1.la, .ref c1.ca, .ref c1.ba, .ref c1.sa, .int c1.u.tk, .int c1.u.cm, .int c1.u.dk, .int c1.u.co, .int c1.u.wt, .int c1.u.lk], eAL E c1.la c1.lq c1.lm (lA c1.lns), eLans 0 c1.lns, eAL E c1.ca c1.cq c1.cm (kA c1.crs), eCrs c1.crs, eLL c1.ba c1.bm (bX c1.bk), eIA E c1.sa 4 c1.st, eSto S1, eO s.a 0 [.ref s.m.a, .ref s.dq, .ref s.sb], eAD E s.dq s.da s.dh (hA s.hs), eMacs E s.hs, eSB E s.sb s.sv s.sN s.ml s.tx.length s.tf, rs] 107 [some (.ref s.a), some (.int n), some (.int v), some (.ref c1.a), some (.int sm), some (.int (((c1.u.dk + (gCks c1.abs)) - s.m.u.dk) - (gCks s.m.abs)))] [] (((102 + 17 * (nN n)) + 1) + 1) (((469 + 88 * (nN n)) + 4) + 4)
                  refine z_aload_n C dX0_ifRun_107 rfl rfl ?_
                  refine z_getN eK1 7 7 C dX0_ifRun_108 rfl rfl q322 (eSame1 rfl) (by decide) rfl ?_
                  refine z_aload_n C dX0_ifRun_111 rfl rfl ?_
                  refine z_get eK0 15 0 C dX0_ifRun_112 rfl rfl q399 (eSame1 rfl) (by decide) rfl ?_
                  refine z_getN eK1 0 7 C dX0_ifRun_115 rfl rfl q322 (eSame1 rfl) (by decide) rfl ?_
                  refine z_isub (w := c1.u.co - s.m.u.co) C dX0_ifRun_118 rfl ?_
                  refine z_goto 148 C dX0_ifRun_119 (by decide) ?_
                  refine z_pick (Γ' := [eO c1.a 1 [.ref c1.la, .ref c1.ca, .ref c1.ba, .ref c1.sa, .int c1.u.tk, .int c1.u.cm, .int c1.u.dk, .int c1.u.co, .int c1.u.wt, .int c1.u.lk], eAL E c1.la c1.lq c1.lm (lA c1.lns), eLans 0 c1.lns, eAL E c1.ca c1.cq c1.cm (kA c1.crs), eCrs c1.crs, eLL c1.ba c1.bm (bX c1.bk), eIA E c1.sa 4 c1.st, eO s.m.a 1 [.ref s.m.la, .ref s.m.ca, .ref s.m.ba, .ref s.m.sa, .int s.m.u.tk, .int s.m.u.cm, .int s.m.u.dk, .int s.m.u.co, .int s.m.u.wt, .int s.m.u.lk], eAL E s.m.la s.m.lq s.m.lm (lA s.m.lns), eLans 0 s.m.lns, eAL E s.m.ca s.m.cq s.m.cm (kA s.m.crs), eCrs s.m.crs, eLL s.m.ba s.m.bm (bX s.m.bk), eIA E s.m.sa 4 s.m.st, eSto S1, eO s.a 0 [.ref s.m.a, .ref s.dq, .ref s.sb], eAD E s.dq s.da s.dh (hA s.hs), eMacs E s.hs, eSB E s.sb s.sv s.sN s.ml s.tx.length s.tf, rs]) [7, 8, 9, 10, 11, 12, 13, 0, 1, 2, 3, 4, 5, 6, 14, 15, 16, 17, 18, 19] (ePm 20 rfl (by decide +kernel)) rfl ?_
                  refine z_join 7 (b := eMac E c1) eMac_cut.symm rfl ?_
                  show eZ x E _ [eMac E c1, eO s.m.a 1 [.ref s.m.la, .ref s.m.ca, .ref s.m.ba, .ref s.m.sa, .int s.m.u.tk, .int s.m.u.cm, .int s.m.u.dk, .int s.m.u.co, .int s.m.u.wt, .int s.m.u.lk], eAL E s.m.la s.m.lq s.m.lm (lA s.m.lns), eLans 0 s.m.lns, eAL E s.m.ca s.m.cq s.m.cm (kA s.m.crs), eCrs s.m.crs, eLL s.m.ba s.m.bm (bX s.m.bk), eIA E s.m.sa 4 s.m.st, eSto S1, eO s.a 0 [.ref s.m.a, .ref s.dq, .ref s.sb], eAD E s.dq s.da s.dh (hA s.hs), eMacs E s.hs, eSB E s.sb s.sv s.sN s.ml s.tx.length s.tf, rs] 148 [some (.ref s.a), some (.int n), some (.int v), some (.ref c1.a), some (.int sm), some (.int (((c1.u.dk + (gCks c1.abs)) - s.m.u.dk) - (gCks s.m.abs)))] [.int (c1.u.co - s.m.u.co)] (((102 + 17 * (nN n)) + 1) + 1) (((469 + 88 * (nN n)) + 4) + 4)
                  refine z_pick (Γ' := [eO s.m.a 1 [.ref s.m.la, .ref s.m.ca, .ref s.m.ba, .ref s.m.sa, .int s.m.u.tk, .int s.m.u.cm, .int s.m.u.dk, .int s.m.u.co, .int s.m.u.wt, .int s.m.u.lk], eAL E s.m.la s.m.lq s.m.lm (lA s.m.lns), eLans 0 s.m.lns, eAL E s.m.ca s.m.cq s.m.cm (kA s.m.crs), eCrs s.m.crs, eLL s.m.ba s.m.bm (bX s.m.bk), eIA E s.m.sa 4 s.m.st, eMac E c1, eSto S1, eO s.a 0 [.ref s.m.a, .ref s.dq, .ref s.sb], eAD E s.dq s.da s.dh (hA s.hs), eMacs E s.hs, eSB E s.sb s.sv s.sN s.ml s.tx.length s.tf, rs]) [1, 2, 3, 4, 5, 6, 7, 0, 8, 9, 10, 11, 12, 13] (ePm 14 rfl (by decide +kernel)) rfl ?_
                  refine z_join 7 (b := eMac E s.m) eMac_cut.symm rfl ?_
                  show eZ x E _ [eMac E s.m, eMac E c1, eSto S1, eO s.a 0 [.ref s.m.a, .ref s.dq, .ref s.sb], eAD E s.dq s.da s.dh (hA s.hs), eMacs E s.hs, eSB E s.sb s.sv s.sN s.ml s.tx.length s.tf, rs] 148 [some (.ref s.a), some (.int n), some (.int v), some (.ref c1.a), some (.int sm), some (.int (((c1.u.dk + (gCks c1.abs)) - s.m.u.dk) - (gCks s.m.abs)))] [.int (c1.u.co - s.m.u.co)] (((102 + 17 * (nN n)) + 1) + 1) (((469 + 88 * (nN n)) + 4) + 4)
                  refine z_pick (Γ' := [eO s.a 0 [.ref s.m.a, .ref s.dq, .ref s.sb], eMac E s.m, eAD E s.dq s.da s.dh (hA s.hs), eMacs E s.hs, eSB E s.sb s.sv s.sN s.ml s.tx.length s.tf, eSto S1, eMac E c1, rs]) [3, 0, 4, 5, 6, 2, 1, 7] (ePm 8 rfl (by decide +kernel)) rfl ?_
                  refine z_join 6 (b := eSys E (s.a, s.m, s.dq, s.da, s.dh, s.hs, s.sb, s.sv, s.sN, s.ml, s.tx, s.tf, S1)) (by rw [eSys_cut]; rfl) rfl ?_
                  show eZ x E _ [eSys E (s.a, s.m, s.dq, s.da, s.dh, s.hs, s.sb, s.sv, s.sN, s.ml, s.tx, s.tf, S1), eMac E c1, rs] 148 [some (.ref s.a), some (.int n), some (.int v), some (.ref c1.a), some (.int sm), some (.int (((c1.u.dk + (gCks c1.abs)) - s.m.u.dk) - (gCks s.m.abs)))] [.int (c1.u.co - s.m.u.co)] (((102 + 17 * (nN n)) + 1) + 1) (((469 + 88 * (nN n)) + 4) + 4)
                  refine z_pick (Γ' := [eMac E c1, eSys E (s.a, s.m, s.dq, s.da, s.dh, s.hs, s.sb, s.sv, s.sN, s.ml, s.tx, s.tf, S1), rs]) [1, 0, 2] (ePm 3 rfl (by decide +kernel)) rfl ?_
                  refine z_drop ?_
                  show eZ x E _ [eSys E (s.a, s.m, s.dq, s.da, s.dh, s.hs, s.sb, s.sv, s.sN, s.ml, s.tx, s.tf, S1), rs] 148 [some (.ref s.a), some (.int n), some (.int v), some (.ref c1.a), some (.int sm), some (.int (((c1.u.dk + (gCks c1.abs)) - s.m.u.dk) - (gCks s.m.abs)))] [.int (c1.u.co - s.m.u.co)] (((102 + 17 * (nN n)) + 1) + 1) (((469 + 88 * (nN n)) + 4) + 4)
                  subst hQ_
                  exact z_ret (Γ := [eSys E (s.a, s.m, s.dq, s.da, s.dh, s.hs, s.sb, s.sv, s.sN, s.ml, s.tx, s.tf, S1)]) C dX0_ifRun_148 rfl rfl (by (try dsimp only); omega) (by (try dsimp only); omega) ⟨(s.a, s.m, s.dq, s.da, s.dh, s.hs, s.sb, s.sv, s.sN, s.ml, s.tx, s.tf, S1), by rw [gIfRunQ, if_pos hif, hR2]; show _ = some (Value.int (gIfV s.m.abs c1.abs sm v)); rw [gIfV, if_neg g0, if_pos g1]; try rfl, rfl, rfl, ⟨hs1, fun z hz => hSS _ (hs2 z hz), fun h hh => ⟨(hs3 h hh).1, fun z hz => hSS _ ((hs3 h hh).2 z hz)⟩, hs4, hs5, hs6⟩, rfl⟩
              · refine z_iload C dX0_ifRun_97 rfl ?_
                refine z_goto 148 C dX0_ifRun_99 (by decide) ?_
                refine z_pick (Γ' := [eO s.a 0 [.ref s.m.a, .ref s.dq, .ref s.sb], eMac E s.m, eAD E s.dq s.da s.dh (hA s.hs), eMacs E s.hs, eSB E s.sb s.sv s.sN s.ml s.tx.length s.tf, eSto S1, eMac E c1, rs]) [3, 0, 4, 5, 6, 2, 1, 7] (ePm 8 rfl (by decide +kernel)) rfl ?_
                refine z_join 6 (b := eSys E (s.a, s.m, s.dq, s.da, s.dh, s.hs, s.sb, s.sv, s.sN, s.ml, s.tx, s.tf, S1)) (by rw [eSys_cut]; rfl) rfl ?_
                show eZ x E _ [eSys E (s.a, s.m, s.dq, s.da, s.dh, s.hs, s.sb, s.sv, s.sN, s.ml, s.tx, s.tf, S1), eMac E c1, rs] 148 [some (.ref s.a), some (.int n), some (.int v), some (.ref c1.a), some (.int sm), some (.int (((c1.u.dk + (gCks c1.abs)) - s.m.u.dk) - (gCks s.m.abs)))] [.int sm] (((102 + 17 * (nN n)) + 1) + 1) (((469 + 88 * (nN n)) + 4) + 4)
                refine z_pick (Γ' := [eMac E c1, eSys E (s.a, s.m, s.dq, s.da, s.dh, s.hs, s.sb, s.sv, s.sN, s.ml, s.tx, s.tf, S1), rs]) [1, 0, 2] (ePm 3 rfl (by decide +kernel)) rfl ?_
                refine z_drop ?_
                show eZ x E _ [eSys E (s.a, s.m, s.dq, s.da, s.dh, s.hs, s.sb, s.sv, s.sN, s.ml, s.tx, s.tf, S1), rs] 148 [some (.ref s.a), some (.int n), some (.int v), some (.ref c1.a), some (.int sm), some (.int (((c1.u.dk + (gCks c1.abs)) - s.m.u.dk) - (gCks s.m.abs)))] [.int sm] (((102 + 17 * (nN n)) + 1) + 1) (((469 + 88 * (nN n)) + 4) + 4)
                subst hQ_
                exact z_ret (Γ := [eSys E (s.a, s.m, s.dq, s.da, s.dh, s.hs, s.sb, s.sv, s.sN, s.ml, s.tx, s.tf, S1)]) C dX0_ifRun_148 rfl rfl (by (try dsimp only); omega) (by (try dsimp only); omega) ⟨(s.a, s.m, s.dq, s.da, s.dh, s.hs, s.sb, s.sv, s.sN, s.ml, s.tx, s.tf, S1), by rw [gIfRunQ, if_pos hif, hR2]; show _ = some (Value.int (gIfV s.m.abs c1.abs sm v)); rw [gIfV, if_pos g0]; try rfl, rfl, rfl, ⟨hs1, fun z hz => hSS _ (hs2 z hz), fun h hh => ⟨(hs3 h hh).1, fun z hz => hSS _ ((hs3 h hh).2 z hz)⟩, hs4, hs5, hs6⟩, rfl⟩
            · exact absurd (by rw [← hn]; exact Int32.le_refl _) h1
        | succ d ih =>
            intro i sm c1 S1 hi hok1 hS1 hSS ha hR
            refine z_iload C dX0_ifRun_45 rfl ?_
            refine z_iload_n C dX0_ifRun_47 rfl rfl ?_
            refine z_icmp_ge 66 C dX0_ifRun_48 (by decide) (fun h1 => ?_) (fun h1 => ?_)
            · exact absurd h1 (by rw [hn]; exact nI_ge (by omega) (by omega))
            · refine z_iload C dX0_ifRun_51 rfl ?_
              refine z_aload_n C dX0_ifRun_53 rfl rfl ?_
              refine z_isv (w := .ref c1.a) (by rw [ha]) ?_
              refine z_callV (r := (RX1, TX1, 10)) (As := []) (rest := [.int sm]) (Δ := [W1, rs]) [0, 1] [2, 3] 0 (m_tick hl E c1 S1 hok1 hS1) C dX0_ifRun_54 rfl rfl (eIn (i := 0) rfl eMac_mem) rfl rfl q1423 q1072 q1073 q50 q1074 (by decide +kernel) rfl (ePm 4 rfl (by decide +kernel)) rfl rfl ⟨Nat.le_of_ble_eq_true rfl, Nat.le_of_ble_eq_true rfl⟩ (Nat.le_trans (eSm rfl eS0) (Nat.le_of_ble_eq_true rfl)) ⟨by first | omega | (dsimp only; omega), by first | omega | (dsimp only; omega)⟩ (fun v_ Γ_ hp_ => ?_)
              obtain ⟨c3, S3, rfl, rfl, habs3, ha3, hS3, hSS3⟩ := hp_
              show eZ x E _ [eMac E c3, eSto S3, W1, rs] 57 [some (.ref s.a), some (.int n), some (.int v), some (.ref c2.a), some (.int sm), some (.int (nI i))] [.int ((gTick c1.abs).1), .int sm] ((102 + 17 * i) + 17) ((469 + 88 * i) + 88)
              refine z_iadd (w := sm + ((gTick c1.abs).1)) C dX0_ifRun_57 rfl ?_
              refine z_istore (L2 := [some (.ref s.a), some (.int n), some (.int v), some (.ref c2.a), some (.int (sm + ((gTick c1.abs).1))), some (.int (nI i))]) C dX0_ifRun_58 (Nat.le_of_ble_eq_true rfl) rfl ?_
              refine z_iinc (v := nI (i + 1)) (L2 := [some (.ref s.a), some (.int n), some (.int v), some (.ref c2.a), some (.int (sm + ((gTick c1.abs).1))), some (.int (nI (i + 1)))]) C dX0_ifRun_60 rfl (nI_1 i) rfl ?_
              refine z_goto 45 C dX0_ifRun_63 (by decide) ?_
              refine z_wide (k' := 102 + 17 * (i + 1)) (n' := 469 + 88 * (i + 1)) (by (try dsimp only); omega) (by (try dsimp only); omega) ?_
              exact ih (i + 1) (sm + (gTick c1.abs).1) c3 S3 (by omega) (by rw [habs3]; exact gTick_ok hok1) hS3 (fun z hz => hSS3 z (hSS z hz)) (ha3.trans ha) (by rw [← hR, gTicks_succ, habs3])
      refine z_wide (k' := 102 + 17 * 0) (n' := 469 + 88 * 0) (by (try dsimp only); omega) (by (try dsimp only); omega) ?_
      exact K (nN n) 0 0 c2 s.S (by omega) hok2 hS2 (fun z h => h) rfl (by rw [hab])
    · refine z_ldc C dX0_ifRun_24 rfl q1335 ?_
      subst hQ_
      exact z_ret (Γ := [eSys E s]) C dX0_ifRun_26 rfl rfl (Nat.le_of_ble_eq_true rfl) (Nat.le_of_ble_eq_true rfl) ⟨s, by rw [gIfRunQ, if_neg (by rw [hb, hc]; decide)], rfl, rfl, hs0, rfl⟩
