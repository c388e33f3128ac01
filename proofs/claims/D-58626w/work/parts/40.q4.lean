/-! ===== count ===== -/
set_option maxRecDepth 100000
def gCountQ (A : As) (w : Int32) : Int32 := if w = 0 then A.m.u.tk else if w = 1 then A.m.u.cm else if w = 2 then gInQ A.m else if w = 3 then gOfC A.m w else if w = 4 then A.m.u.dk else if w = 5 then gCks A.m else if w = 6 then A.m.u.co else if w = 7 then gOfC A.m w else if w = 8 then gOfC A.m w else if w = 9 then A.m.u.lk else if w = 10 then nI A.m.bs.length else if w = 11 then nI A.hs.length else if w = 12 then nI A.tx.length else if eBt w 20 23 = true then A.m.st (nN (w - 20)) else -1000001
theorem eB20 {w : Int32} (h : eBt w 20 23 = true) : ∃ K, K < 4 ∧ w = nI (20 + K) := by
  have h1 := of_decide_eq_true h
  have h0 : (0 : Int32) ≤ w := Int32.le_trans (by decide) h1.1
  have h2 := nN_le (a := 20) (by decide) h1.1
  have h3 := nN_le h0 h1.2
  have h4 : nN 20 = 20 := by decide
  have h5 : nN 23 = 23 := by decide
  exact ⟨nN w - 20, by omega, by rw [show 20 + (nN w - 20) = nN w by omega]; exact nI_nN h0⟩
theorem eNe12 {w : Int32} (h : ¬ eBt w 0 12 = true) : (w.toInt < 0 ∨ 12 < w.toInt) ∧ w ≠ 0 ∧ w ≠ 1 ∧ w ≠ 2 ∧ w ≠ 3 ∧ w ≠ 4 ∧ w ≠ 5 ∧ w ≠ 6 ∧ w ≠ 7 ∧ w ≠ 8 ∧ w ≠ 9 ∧ w ≠ 10 ∧ w ≠ 11 ∧ w ≠ 12 := by
  refine ⟨?_, ?_, ?_, ?_, ?_, ?_, ?_, ?_, ?_, ?_, ?_, ?_, ?_, ?_⟩
  · have h1 : ¬ (0 ≤ w ∧ w ≤ 12) := fun h2 => h (decide_eq_true h2)
    by_cases h2 : (0 : Int32) ≤ w
    · right
      have h3 : ¬ w ≤ 12 := fun h4 => h1 ⟨h2, h4⟩
      exact Int32.lt_iff_toInt_lt.mp (Int32.not_le.mp h3)
    · left
      exact Int32.lt_iff_toInt_lt.mp (Int32.not_le.mp h2)
  all_goals (intro e; subst e; exact h (by decide))

set_option maxHeartbeats 4000000 in
theorem m_countQ {l : Launch} (hl : l.stackTraces = false) (E : eEn) (s : Sy) (hs : sOk s) (v : Int32) : eMet l E yX0_count (ws_ yX0_count cX0_count 2 (some .int)) ({ frames := 4, cells := 1, slots := 4, locals := 77 }) [.ref s.a, .int v] [eSys E s] (sQ E s (gCountQ s.abs v)) := by
  refine eStart (cc := cX0_count) (nL := 2) (L := [some (.ref s.a), some (.int v)]) hl (by decide) rfl (List.forall_mem_cons.mpr ⟨rfl, (List.forall_mem_cons.mpr ⟨rfl, (fun _ h => absurd h List.not_mem_nil)⟩)⟩) (Nat.le_of_ble_eq_true rfl) ?_
  intro x rs C
  show eZ x E (eQ x E (sQ E s (gCountQ s.abs v)) rs) [eSys E s, rs] 0 [some (.ref s.a), some (.int v)] [] 0 0
  generalize hQ_ : eQ x E (sQ E s (gCountQ s.abs v)) rs = Q_
  have hx : s.abs = (s.m.abs, s.hs.map Cm.abs, s.tx) := rfl
  rw [hx] at hQ_
  obtain ⟨hs1, hs2, hs3, hs4, hs5, hs6⟩ := hs
  refine z_cut 0 (bs := [eO s.a 0 [.ref s.m.a, .ref s.dq, .ref s.sb], eMac E s.m, eAD E s.dq s.da s.dh (hA s.hs), eMacs E s.hs, eSB E s.sb s.sv s.sN s.ml s.tx.length s.tf, eSto s.S]) rfl eSys_cut rfl ?_
  show eZ x E _ [eO s.a 0 [.ref s.m.a, .ref s.dq, .ref s.sb], eMac E s.m, eAD E s.dq s.da s.dh (hA s.hs), eMacs E s.hs, eSB E s.sb s.sv s.sN s.ml s.tx.length s.tf, eSto s.S, rs] 0 [some (.ref s.a), some (.int v)] [] 0 0
  obtain ⟨c, hcm⟩ : ∃ c, c = s.m := ⟨_, rfl⟩
  rw [← hcm] at hs1 hs2 hQ_ ⊢
  show eZ x E _ [eO s.a 0 [.ref c.a, .ref s.dq, .ref s.sb], eMac E c, eAD E s.dq s.da s.dh (hA s.hs), eMacs E s.hs, eSB E s.sb s.sv s.sN s.ml s.tx.length s.tf, eSto s.S, rs] 0 [some (.ref s.a), some (.int v)] [] 0 0
  have hok2 := hs1
  have hok := hs1
  obtain ⟨hk1, hk2, hk3, hk4, hk5, hk6⟩ := hok
  have hl4 : c.lns.length = 4 := by have h : (lV c.lns).length = 4 := hk1; rw [List.length_map] at h; exact h
  have hl8 : ∀ l ∈ c.lns, l.zs.length ≤ 8 := fun l hl => by have h : (qG l.zs).length ≤ 8 := hk2 _ (List.mem_map.mpr ⟨l, hl, rfl⟩); rw [List.length_map] at h; exact h
  have hc6 : c.crs.length = 6 := by have h : (c.crs.map Prod.snd).length = 6 := hk3; rw [List.length_map] at h; exact h
  have hb10 : c.bk.length ≤ 10 := by have h : (c.bk.map Prod.snd).length ≤ 10 := hk4; rw [List.length_map] at h; exact h
  have hla : (lA c.lns).length ≤ 10 := by rw [List.length_map]; omega
  have hka : (kA c.crs).length ≤ 10 := by rw [List.length_map]; omega
  refine z_iload_n C dX0_count_0 rfl rfl ?_
  by_cases hw : eBt v 0 12 = true
  · obtain ⟨K, hK, rfl⟩ := eBt_N (hw)
    have hK2 : K < 13 := Nat.lt_succ_of_le hK
    have hK3 : K = 0 ∨ K = 1 ∨ K = 2 ∨ K = 3 ∨ K = 4 ∨ K = 5 ∨ K = 6 ∨ K = 7 ∨ K = 8 ∨ K = 9 ∨ K = 10 ∨ K = 11 ∨ K = 12 := by omega
    rcases hK3 with rfl | rfl | rfl | rfl | rfl | rfl | rfl | rfl | rfl | rfl | rfl | rfl | rfl
    · show eZ x E _ [eO s.a 0 [.ref c.a, .ref s.dq, .ref s.sb], eMac E c, eAD E s.dq s.da s.dh (hA s.hs), eMacs E s.hs, eSB E s.sb s.sv s.sN s.ml s.tx.length s.tf, eSto s.S, rs] 1 [some (.ref s.a), some (.int (nI 0))] [.int (nI 0)] 0 0
      refine z_tabIn (off := 67) 68 C dX0_count_1 (by decide) (by decide) (by decide) (by decide) ?_
      refine z_cut 1 (bs := [eO c.a 1 [.ref c.la, .ref c.ca, .ref c.ba, .ref c.sa, .int c.u.tk, .int c.u.cm, .int c.u.dk, .int c.u.co, .int c.u.wt, .int c.u.lk], eAL E c.la c.lq c.lm (lA c.lns), eLans 0 c.lns, eAL E c.ca c.cq c.cm (kA c.crs), eCrs c.crs, eLL c.ba c.bm (bX c.bk), eIA E c.sa 4 c.st]) rfl eMac_cut rfl ?_
      show eZ x E _ [eO s.a 0 [.ref c.a, .ref s.dq, .ref s.sb], eO c.a 1 [.ref c.la, .ref c.ca, .ref c.ba, .ref c.sa, .int c.u.tk, .int c.u.cm, .int c.u.dk, .int c.u.co, .int c.u.wt, .int c.u.lk], eAL E c.la c.lq c.lm (lA c.lns), eLans 0 c.lns, eAL E c.ca c.cq c.cm (kA c.crs), eCrs c.crs, eLL c.ba c.bm (bX c.bk), eIA E c.sa 4 c.st, eAD E s.dq s.da s.dh (hA s.hs), eMacs E s.hs, eSB E s.sb s.sv s.sN s.ml s.tx.length s.tf, eSto s.S, rs] 68 [some (.ref s.a), some (.int (nI 0))] [] 0 0
      refine z_aload_n C dX0_count_68 rfl rfl ?_
      refine z_get eK0 0 0 C dX0_count_69 rfl rfl q399 (eSame1 rfl) (by decide) rfl ?_
      refine z_getN eK1 1 4 C dX0_count_72 rfl rfl q316 (eSame1 rfl) (by decide) rfl ?_
      refine z_pick (Γ' := [eO c.a 1 [.ref c.la, .ref c.ca, .ref c.ba, .ref c.sa, .int c.u.tk, .int c.u.cm, .int c.u.dk, .int c.u.co, .int c.u.wt, .int c.u.lk], eAL E c.la c.lq c.lm (lA c.lns), eLans 0 c.lns, eAL E c.ca c.cq c.cm (kA c.crs), eCrs c.crs, eLL c.ba c.bm (bX c.bk), eIA E c.sa 4 c.st, eO s.a 0 [.ref c.a, .ref s.dq, .ref s.sb], eAD E s.dq s.da s.dh (hA s.hs), eMacs E s.hs, eSB E s.sb s.sv s.sN s.ml s.tx.length s.tf, eSto s.S, rs]) [1, 2, 3, 4, 5, 6, 7, 0, 8, 9, 10, 11, 12] (ePm 13 rfl (by decide +kernel)) rfl ?_
      refine z_join 7 (b := eMac E c) eMac_cut.symm rfl ?_
      show eZ x E _ [eMac E c, eO s.a 0 [.ref c.a, .ref s.dq, .ref s.sb], eAD E s.dq s.da s.dh (hA s.hs), eMacs E s.hs, eSB E s.sb s.sv s.sN s.ml s.tx.length s.tf, eSto s.S, rs] 75 [some (.ref s.a), some (.int (nI 0))] [.int c.u.tk] 0 0
      refine z_pick (Γ' := [eO s.a 0 [.ref c.a, .ref s.dq, .ref s.sb], eMac E c, eAD E s.dq s.da s.dh (hA s.hs), eMacs E s.hs, eSB E s.sb s.sv s.sN s.ml s.tx.length s.tf, eSto s.S, rs]) [1, 0, 2, 3, 4, 5, 6] (ePm 7 rfl (by decide +kernel)) rfl ?_
      refine z_join 6 (b := eSys E s) (by rw [eSys_cut, ← hcm]; rfl) rfl ?_
      show eZ x E _ [eSys E s, rs] 75 [some (.ref s.a), some (.int (nI 0))] [.int c.u.tk] 0 0
      subst hQ_
      exact z_ret (Γ := [eSys E s]) C dX0_count_75 rfl rfl (Nat.le_of_ble_eq_true rfl) (Nat.le_of_ble_eq_true rfl) ⟨by rw [gCountQ, if_pos (by decide)]; rfl, rfl⟩
    · show eZ x E _ [eO s.a 0 [.ref c.a, .ref s.dq, .ref s.sb], eMac E c, eAD E s.dq s.da s.dh (hA s.hs), eMacs E s.hs, eSB E s.sb s.sv s.sN s.ml s.tx.length s.tf, eSto s.S, rs] 1 [some (.ref s.a), some (.int (nI 1))] [.int (nI 1)] 0 0
      refine z_tabIn (off := 75) 76 C dX0_count_1 (by decide) (by decide) (by decide) (by decide) ?_
      refine z_cut 1 (bs := [eO c.a 1 [.ref c.la, .ref c.ca, .ref c.ba, .ref c.sa, .int c.u.tk, .int c.u.cm, .int c.u.dk, .int c.u.co, .int c.u.wt, .int c.u.lk], eAL E c.la c.lq c.lm (lA c.lns), eLans 0 c.lns, eAL E c.ca c.cq c.cm (kA c.crs), eCrs c.crs, eLL c.ba c.bm (bX c.bk), eIA E c.sa 4 c.st]) rfl eMac_cut rfl ?_
      show eZ x E _ [eO s.a 0 [.ref c.a, .ref s.dq, .ref s.sb], eO c.a 1 [.ref c.la, .ref c.ca, .ref c.ba, .ref c.sa, .int c.u.tk, .int c.u.cm, .int c.u.dk, .int c.u.co, .int c.u.wt, .int c.u.lk], eAL E c.la c.lq c.lm (lA c.lns), eLans 0 c.lns, eAL E c.ca c.cq c.cm (kA c.crs), eCrs c.crs, eLL c.ba c.bm (bX c.bk), eIA E c.sa 4 c.st, eAD E s.dq s.da s.dh (hA s.hs), eMacs E s.hs, eSB E s.sb s.sv s.sN s.ml s.tx.length s.tf, eSto s.S, rs] 76 [some (.ref s.a), some (.int (nI 1))] [] 0 0
      refine z_aload_n C dX0_count_76 rfl rfl ?_
      refine z_get eK0 0 0 C dX0_count_77 rfl rfl q399 (eSame1 rfl) (by decide) rfl ?_
      refine z_getN eK1 1 5 C dX0_count_80 rfl rfl q318 (eSame1 rfl) (by decide) rfl ?_
      refine z_pick (Γ' := [eO c.a 1 [.ref c.la, .ref c.ca, .ref c.ba, .ref c.sa, .int c.u.tk, .int c.u.cm, .int c.u.dk, .int c.u.co, .int c.u.wt, .int c.u.lk], eAL E c.la c.lq c.lm (lA c.lns), eLans 0 c.lns, eAL E c.ca c.cq c.cm (kA c.crs), eCrs c.crs, eLL c.ba c.bm (bX c.bk), eIA E c.sa 4 c.st, eO s.a 0 [.ref c.a, .ref s.dq, .ref s.sb], eAD E s.dq s.da s.dh (hA s.hs), eMacs E s.hs, eSB E s.sb s.sv s.sN s.ml s.tx.length s.tf, eSto s.S, rs]) [1, 2, 3, 4, 5, 6, 7, 0, 8, 9, 10, 11, 12] (ePm 13 rfl (by decide +kernel)) rfl ?_
      refine z_join 7 (b := eMac E c) eMac_cut.symm rfl ?_
      show eZ x E _ [eMac E c, eO s.a 0 [.ref c.a, .ref s.dq, .ref s.sb], eAD E s.dq s.da s.dh (hA s.hs), eMacs E s.hs, eSB E s.sb s.sv s.sN s.ml s.tx.length s.tf, eSto s.S, rs] 83 [some (.ref s.a), some (.int (nI 1))] [.int c.u.cm] 0 0
      refine z_pick (Γ' := [eO s.a 0 [.ref c.a, .ref s.dq, .ref s.sb], eMac E c, eAD E s.dq s.da s.dh (hA s.hs), eMacs E s.hs, eSB E s.sb s.sv s.sN s.ml s.tx.length s.tf, eSto s.S, rs]) [1, 0, 2, 3, 4, 5, 6] (ePm 7 rfl (by decide +kernel)) rfl ?_
      refine z_join 6 (b := eSys E s) (by rw [eSys_cut, ← hcm]; rfl) rfl ?_
      show eZ x E _ [eSys E s, rs] 83 [some (.ref s.a), some (.int (nI 1))] [.int c.u.cm] 0 0
      subst hQ_
      exact z_ret (Γ := [eSys E s]) C dX0_count_83 rfl rfl (Nat.le_of_ble_eq_true rfl) (Nat.le_of_ble_eq_true rfl) ⟨by rw [gCountQ, if_neg (by decide), if_pos (by decide)]; rfl, rfl⟩
    · show eZ x E _ [eO s.a 0 [.ref c.a, .ref s.dq, .ref s.sb], eMac E c, eAD E s.dq s.da s.dh (hA s.hs), eMacs E s.hs, eSB E s.sb s.sv s.sN s.ml s.tx.length s.tf, eSto s.S, rs] 1 [some (.ref s.a), some (.int (nI 2))] [.int (nI 2)] 0 0
      refine z_tabIn (off := 83) 84 C dX0_count_1 (by decide) (by decide) (by decide) (by decide) ?_
      refine z_aload_n C dX0_count_84 rfl rfl ?_
      refine z_get eK0 0 0 C dX0_count_85 rfl rfl q399 (eSame1 rfl) (by decide) rfl ?_
      refine z_callV (r := (RX1, TX1, 10)) (As := []) (rest := []) (Δ := [eO s.a 0 [.ref c.a, .ref s.dq, .ref s.sb], eAD E s.dq s.da s.dh (hA s.hs), eMacs E s.hs, eSB E s.sb s.sv s.sN s.ml s.tx.length s.tf, eSto s.S, rs]) [1] [0, 2, 3, 4, 5, 6] 0 (m_inQueues hl E c hok2) C dX0_count_88 rfl rfl (eIn (i := 1) rfl eMac_mem) rfl rfl q1450 q1451 q1452 q50 q1453 (by decide +kernel) rfl (ePm 7 rfl (by decide +kernel)) rfl rfl ⟨Nat.le_of_ble_eq_true rfl, Nat.le_of_ble_eq_true rfl⟩ (Nat.le_trans eS0 (Nat.le_of_ble_eq_true rfl)) ⟨Nat.le_of_ble_eq_true rfl, Nat.le_of_ble_eq_true rfl⟩ (fun v_ Γ_ hp_ => ?_)
      obtain ⟨rfl, rfl⟩ := hp_
      show eZ x E _ [eMac E c, eO s.a 0 [.ref c.a, .ref s.dq, .ref s.sb], eAD E s.dq s.da s.dh (hA s.hs), eMacs E s.hs, eSB E s.sb s.sv s.sN s.ml s.tx.length s.tf, eSto s.S, rs] 91 [some (.ref s.a), some (.int (nI 2))] [.int (gInQ c.abs)] 1 4
      refine z_pick (Γ' := [eO s.a 0 [.ref c.a, .ref s.dq, .ref s.sb], eMac E c, eAD E s.dq s.da s.dh (hA s.hs), eMacs E s.hs, eSB E s.sb s.sv s.sN s.ml s.tx.length s.tf, eSto s.S, rs]) [1, 0, 2, 3, 4, 5, 6] (ePm 7 rfl (by decide +kernel)) rfl ?_
      refine z_join 6 (b := eSys E s) (by rw [eSys_cut, ← hcm]; rfl) rfl ?_
      show eZ x E _ [eSys E s, rs] 91 [some (.ref s.a), some (.int (nI 2))] [.int (gInQ c.abs)] 1 4
      subst hQ_
      exact z_ret (Γ := [eSys E s]) C dX0_count_91 rfl rfl (Nat.le_of_ble_eq_true rfl) (Nat.le_of_ble_eq_true rfl) ⟨by rw [gCountQ, if_neg (by decide), if_neg (by decide), if_pos (by decide)], rfl⟩
    · show eZ x E _ [eO s.a 0 [.ref c.a, .ref s.dq, .ref s.sb], eMac E c, eAD E s.dq s.da s.dh (hA s.hs), eMacs E s.hs, eSB E s.sb s.sv s.sN s.ml s.tx.length s.tf, eSto s.S, rs] 1 [some (.ref s.a), some (.int (nI 3))] [.int (nI 3)] 0 0
      refine z_tabIn (off := 91) 92 C dX0_count_1 (by decide) (by decide) (by decide) (by decide) ?_
      refine z_aload_n C dX0_count_92 rfl rfl ?_
      refine z_get eK0 0 0 C dX0_count_93 rfl rfl q399 (eSame1 rfl) (by decide) rfl ?_
      refine z_iload_n C dX0_count_96 rfl rfl ?_
      refine z_callS (As := [.ref c.a, .int (nI 3)]) (rest := []) (Δ := [eO s.a 0 [.ref c.a, .ref s.dq, .ref s.sb], eAD E s.dq s.da s.dh (hA s.hs), eMacs E s.hs, eSB E s.sb s.sv s.sN s.ml s.tx.length s.tf, eSto s.S, rs]) [1] [0, 2, 3, 4, 5, 6] 2 (m_ofCrates hl E c hok2 (nI 3)) C dX0_count_97 rfl rfl rfl q1428 q1429 q49 q1430 (by decide +kernel) rfl (ePm 7 rfl (by decide +kernel)) rfl rfl ⟨Nat.le_of_ble_eq_true rfl, Nat.le_of_ble_eq_true rfl⟩ (Nat.le_trans eS0 (Nat.le_of_ble_eq_true rfl)) ⟨Nat.le_of_ble_eq_true rfl, Nat.le_of_ble_eq_true rfl⟩ (fun v_ Γ_ hp_ => ?_)
      obtain ⟨rfl, rfl⟩ := hp_
      show eZ x E _ [eMac E c, eO s.a 0 [.ref c.a, .ref s.dq, .ref s.sb], eAD E s.dq s.da s.dh (hA s.hs), eMacs E s.hs, eSB E s.sb s.sv s.sN s.ml s.tx.length s.tf, eSto s.S, rs] 100 [some (.ref s.a), some (.int (nI 3))] [.int (gOfC c.abs (nI 3))] 1 4
      refine z_pick (Γ' := [eO s.a 0 [.ref c.a, .ref s.dq, .ref s.sb], eMac E c, eAD E s.dq s.da s.dh (hA s.hs), eMacs E s.hs, eSB E s.sb s.sv s.sN s.ml s.tx.length s.tf, eSto s.S, rs]) [1, 0, 2, 3, 4, 5, 6] (ePm 7 rfl (by decide +kernel)) rfl ?_
      refine z_join 6 (b := eSys E s) (by rw [eSys_cut, ← hcm]; rfl) rfl ?_
      show eZ x E _ [eSys E s, rs] 100 [some (.ref s.a), some (.int (nI 3))] [.int (gOfC c.abs (nI 3))] 1 4
      subst hQ_
      exact z_ret (Γ := [eSys E s]) C dX0_count_100 rfl rfl (Nat.le_of_ble_eq_true rfl) (Nat.le_of_ble_eq_true rfl) ⟨by rw [gCountQ, if_neg (by decide), if_neg (by decide), if_neg (by decide), if_pos (by decide)], rfl⟩
    · show eZ x E _ [eO s.a 0 [.ref c.a, .ref s.dq, .ref s.sb], eMac E c, eAD E s.dq s.da s.dh (hA s.hs), eMacs E s.hs, eSB E s.sb s.sv s.sN s.ml s.tx.length s.tf, eSto s.S, rs] 1 [some (.ref s.a), some (.int (nI 4))] [.int (nI 4)] 0 0
      refine z_tabIn (off := 100) 101 C dX0_count_1 (by decide) (by decide) (by decide) (by decide) ?_
      refine z_cut 1 (bs := [eO c.a 1 [.ref c.la, .ref c.ca, .ref c.ba, .ref c.sa, .int c.u.tk, .int c.u.cm, .int c.u.dk, .int c.u.co, .int c.u.wt, .int c.u.lk], eAL E c.la c.lq c.lm (lA c.lns), eLans 0 c.lns, eAL E c.ca c.cq c.cm (kA c.crs), eCrs c.crs, eLL c.ba c.bm (bX c.bk), eIA E c.sa 4 c.st]) rfl eMac_cut rfl ?_
      show eZ x E _ [eO s.a 0 [.ref c.a, .ref s.dq, .ref s.sb], eO c.a 1 [.ref c.la, .ref c.ca, .ref c.ba, .ref c.sa, .int c.u.tk, .int c.u.cm, .int c.u.dk, .int c.u.co, .int c.u.wt, .int c.u.lk], eAL E c.la c.lq c.lm (lA c.lns), eLans 0 c.lns, eAL E c.ca c.cq c.cm (kA c.crs), eCrs c.crs, eLL c.ba c.bm (bX c.bk), eIA E c.sa 4 c.st, eAD E s.dq s.da s.dh (hA s.hs), eMacs E s.hs, eSB E s.sb s.sv s.sN s.ml s.tx.length s.tf, eSto s.S, rs] 101 [some (.ref s.a), some (.int (nI 4))] [] 0 0
      refine z_aload_n C dX0_count_101 rfl rfl ?_
      refine z_get eK0 0 0 C dX0_count_102 rfl rfl q399 (eSame1 rfl) (by decide) rfl ?_
      refine z_getN eK1 1 6 C dX0_count_105 rfl rfl q320 (eSame1 rfl) (by decide) rfl ?_
      refine z_pick (Γ' := [eO c.a 1 [.ref c.la, .ref c.ca, .ref c.ba, .ref c.sa, .int c.u.tk, .int c.u.cm, .int c.u.dk, .int c.u.co, .int c.u.wt, .int c.u.lk], eAL E c.la c.lq c.lm (lA c.lns), eLans 0 c.lns, eAL E c.ca c.cq c.cm (kA c.crs), eCrs c.crs, eLL c.ba c.bm (bX c.bk), eIA E c.sa 4 c.st, eO s.a 0 [.ref c.a, .ref s.dq, .ref s.sb], eAD E s.dq s.da s.dh (hA s.hs), eMacs E s.hs, eSB E s.sb s.sv s.sN s.ml s.tx.length s.tf, eSto s.S, rs]) [1, 2, 3, 4, 5, 6, 7, 0, 8, 9, 10, 11, 12] (ePm 13 rfl (by decide +kernel)) rfl ?_
      refine z_join 7 (b := eMac E c) eMac_cut.symm rfl ?_
      show eZ x E _ [eMac E c, eO s.a 0 [.ref c.a, .ref s.dq, .ref s.sb], eAD E s.dq s.da s.dh (hA s.hs), eMacs E s.hs, eSB E s.sb s.sv s.sN s.ml s.tx.length s.tf, eSto s.S, rs] 108 [some (.ref s.a), some (.int (nI 4))] [.int c.u.dk] 0 0
      refine z_pick (Γ' := [eO s.a 0 [.ref c.a, .ref s.dq, .ref s.sb], eMac E c, eAD E s.dq s.da s.dh (hA s.hs), eMacs E s.hs, eSB E s.sb s.sv s.sN s.ml s.tx.length s.tf, eSto s.S, rs]) [1, 0, 2, 3, 4, 5, 6] (ePm 7 rfl (by decide +kernel)) rfl ?_
      refine z_join 6 (b := eSys E s) (by rw [eSys_cut, ← hcm]; rfl) rfl ?_
      show eZ x E _ [eSys E s, rs] 108 [some (.ref s.a), some (.int (nI 4))] [.int c.u.dk] 0 0
      subst hQ_
      exact z_ret (Γ := [eSys E s]) C dX0_count_108 rfl rfl (Nat.le_of_ble_eq_true rfl) (Nat.le_of_ble_eq_true rfl) ⟨by rw [gCountQ, if_neg (by decide), if_neg (by decide), if_neg (by decide), if_neg (by decide), if_pos (by decide)]; rfl, rfl⟩
    · show eZ x E _ [eO s.a 0 [.ref c.a, .ref s.dq, .ref s.sb], eMac E c, eAD E s.dq s.da s.dh (hA s.hs), eMacs E s.hs, eSB E s.sb s.sv s.sN s.ml s.tx.length s.tf, eSto s.S, rs] 1 [some (.ref s.a), some (.int (nI 5))] [.int (nI 5)] 0 0
      refine z_tabIn (off := 108) 109 C dX0_count_1 (by decide) (by decide) (by decide) (by decide) ?_
      refine z_aload_n C dX0_count_109 rfl rfl ?_
      refine z_get eK0 0 0 C dX0_count_110 rfl rfl q399 (eSame1 rfl) (by decide) rfl ?_
      refine z_callV (r := (RX1, TX1, 10)) (As := []) (rest := []) (Δ := [eO s.a 0 [.ref c.a, .ref s.dq, .ref s.sb], eAD E s.dq s.da s.dh (hA s.hs), eMacs E s.hs, eSB E s.sb s.sv s.sN s.ml s.tx.length s.tf, eSto s.S, rs]) [1] [0, 2, 3, 4, 5, 6] 0 (m_cracked hl E c hok2) C dX0_count_113 rfl rfl (eIn (i := 1) rfl eMac_mem) rfl rfl q1424 q1425 q1426 q50 q1427 (by decide +kernel) rfl (ePm 7 rfl (by decide +kernel)) rfl rfl ⟨Nat.le_of_ble_eq_true rfl, Nat.le_of_ble_eq_true rfl⟩ (Nat.le_trans eS0 (Nat.le_of_ble_eq_true rfl)) ⟨Nat.le_of_ble_eq_true rfl, Nat.le_of_ble_eq_true rfl⟩ (fun v_ Γ_ hp_ => ?_)
      obtain ⟨rfl, rfl⟩ := hp_
      show eZ x E _ [eMac E c, eO s.a 0 [.ref c.a, .ref s.dq, .ref s.sb], eAD E s.dq s.da s.dh (hA s.hs), eMacs E s.hs, eSB E s.sb s.sv s.sN s.ml s.tx.length s.tf, eSto s.S, rs] 116 [some (.ref s.a), some (.int (nI 5))] [.int (gCks c.abs)] 1 4
      refine z_pick (Γ' := [eO s.a 0 [.ref c.a, .ref s.dq, .ref s.sb], eMac E c, eAD E s.dq s.da s.dh (hA s.hs), eMacs E s.hs, eSB E s.sb s.sv s.sN s.ml s.tx.length s.tf, eSto s.S, rs]) [1, 0, 2, 3, 4, 5, 6] (ePm 7 rfl (by decide +kernel)) rfl ?_
      refine z_join 6 (b := eSys E s) (by rw [eSys_cut, ← hcm]; rfl) rfl ?_
      show eZ x E _ [eSys E s, rs] 116 [some (.ref s.a), some (.int (nI 5))] [.int (gCks c.abs)] 1 4
      subst hQ_
      exact z_ret (Γ := [eSys E s]) C dX0_count_116 rfl rfl (Nat.le_of_ble_eq_true rfl) (Nat.le_of_ble_eq_true rfl) ⟨by rw [gCountQ, if_neg (by decide), if_neg (by decide), if_neg (by decide), if_neg (by decide), if_neg (by decide), if_pos (by decide)], rfl⟩
    · show eZ x E _ [eO s.a 0 [.ref c.a, .ref s.dq, .ref s.sb], eMac E c, eAD E s.dq s.da s.dh (hA s.hs), eMacs E s.hs, eSB E s.sb s.sv s.sN s.ml s.tx.length s.tf, eSto s.S, rs] 1 [some (.ref s.a), some (.int (nI 6))] [.int (nI 6)] 0 0
      refine z_tabIn (off := 116) 117 C dX0_count_1 (by decide) (by decide) (by decide) (by decide) ?_
      refine z_cut 1 (bs := [eO c.a 1 [.ref c.la, .ref c.ca, .ref c.ba, .ref c.sa, .int c.u.tk, .int c.u.cm, .int c.u.dk, .int c.u.co, .int c.u.wt, .int c.u.lk], eAL E c.la c.lq c.lm (lA c.lns), eLans 0 c.lns, eAL E c.ca c.cq c.cm (kA c.crs), eCrs c.crs, eLL c.ba c.bm (bX c.bk), eIA E c.sa 4 c.st]) rfl eMac_cut rfl ?_
      show eZ x E _ [eO s.a 0 [.ref c.a, .ref s.dq, .ref s.sb], eO c.a 1 [.ref c.la, .ref c.ca, .ref c.ba, .ref c.sa, .int c.u.tk, .int c.u.cm, .int c.u.dk, .int c.u.co, .int c.u.wt, .int c.u.lk], eAL E c.la c.lq c.lm (lA c.lns), eLans 0 c.lns, eAL E c.ca c.cq c.cm (kA c.crs), eCrs c.crs, eLL c.ba c.bm (bX c.bk), eIA E c.sa 4 c.st, eAD E s.dq s.da s.dh (hA s.hs), eMacs E s.hs, eSB E s.sb s.sv s.sN s.ml s.tx.length s.tf, eSto s.S, rs] 117 [some (.ref s.a), some (.int (nI 6))] [] 0 0
      refine z_aload_n C dX0_count_117 rfl rfl ?_
      refine z_get eK0 0 0 C dX0_count_118 rfl rfl q399 (eSame1 rfl) (by decide) rfl ?_
      refine z_getN eK1 1 7 C dX0_count_121 rfl rfl q322 (eSame1 rfl) (by decide) rfl ?_
      refine z_pick (Γ' := [eO c.a 1 [.ref c.la, .ref c.ca, .ref c.ba, .ref c.sa, .int c.u.tk, .int c.u.cm, .int c.u.dk, .int c.u.co, .int c.u.wt, .int c.u.lk], eAL E c.la c.lq c.lm (lA c.lns), eLans 0 c.lns, eAL E c.ca c.cq c.cm (kA c.crs), eCrs c.crs, eLL c.ba c.bm (bX c.bk), eIA E c.sa 4 c.st, eO s.a 0 [.ref c.a, .ref s.dq, .ref s.sb], eAD E s.dq s.da s.dh (hA s.hs), eMacs E s.hs, eSB E s.sb s.sv s.sN s.ml s.tx.length s.tf, eSto s.S, rs]) [1, 2, 3, 4, 5, 6, 7, 0, 8, 9, 10, 11, 12] (ePm 13 rfl (by decide +kernel)) rfl ?_
      refine z_join 7 (b := eMac E c) eMac_cut.symm rfl ?_
      show eZ x E _ [eMac E c, eO s.a 0 [.ref c.a, .ref s.dq, .ref s.sb], eAD E s.dq s.da s.dh (hA s.hs), eMacs E s.hs, eSB E s.sb s.sv s.sN s.ml s.tx.length s.tf, eSto s.S, rs] 124 [some (.ref s.a), some (.int (nI 6))] [.int c.u.co] 0 0
      refine z_pick (Γ' := [eO s.a 0 [.ref c.a, .ref s.dq, .ref s.sb], eMac E c, eAD E s.dq s.da s.dh (hA s.hs), eMacs E s.hs, eSB E s.sb s.sv s.sN s.ml s.tx.length s.tf, eSto s.S, rs]) [1, 0, 2, 3, 4, 5, 6] (ePm 7 rfl (by decide +kernel)) rfl ?_
      refine z_join 6 (b := eSys E s) (by rw [eSys_cut, ← hcm]; rfl) rfl ?_
      show eZ x E _ [eSys E s, rs] 124 [some (.ref s.a), some (.int (nI 6))] [.int c.u.co] 0 0
      subst hQ_
      exact z_ret (Γ := [eSys E s]) C dX0_count_124 rfl rfl (Nat.le_of_ble_eq_true rfl) (Nat.le_of_ble_eq_true rfl) ⟨by rw [gCountQ, if_neg (by decide), if_neg (by decide), if_neg (by decide), if_neg (by decide), if_neg (by decide), if_neg (by decide), if_pos (by decide)]; rfl, rfl⟩
    · show eZ x E _ [eO s.a 0 [.ref c.a, .ref s.dq, .ref s.sb], eMac E c, eAD E s.dq s.da s.dh (hA s.hs), eMacs E s.hs, eSB E s.sb s.sv s.sN s.ml s.tx.length s.tf, eSto s.S, rs] 1 [some (.ref s.a), some (.int (nI 7))] [.int (nI 7)] 0 0
      refine z_tabIn (off := 91) 92 C dX0_count_1 (by decide) (by decide) (by decide) (by decide) ?_
      refine z_aload_n C dX0_count_92 rfl rfl ?_
      refine z_get eK0 0 0 C dX0_count_93 rfl rfl q399 (eSame1 rfl) (by decide) rfl ?_
      refine z_iload_n C dX0_count_96 rfl rfl ?_
      refine z_callS (As := [.ref c.a, .int (nI 7)]) (rest := []) (Δ := [eO s.a 0 [.ref c.a, .ref s.dq, .ref s.sb], eAD E s.dq s.da s.dh (hA s.hs), eMacs E s.hs, eSB E s.sb s.sv s.sN s.ml s.tx.length s.tf, eSto s.S, rs]) [1] [0, 2, 3, 4, 5, 6] 2 (m_ofCrates hl E c hok2 (nI 7)) C dX0_count_97 rfl rfl rfl q1428 q1429 q49 q1430 (by decide +kernel) rfl (ePm 7 rfl (by decide +kernel)) rfl rfl ⟨Nat.le_of_ble_eq_true rfl, Nat.le_of_ble_eq_true rfl⟩ (Nat.le_trans eS0 (Nat.le_of_ble_eq_true rfl)) ⟨Nat.le_of_ble_eq_true rfl, Nat.le_of_ble_eq_true rfl⟩ (fun v_ Γ_ hp_ => ?_)
      obtain ⟨rfl, rfl⟩ := hp_
      show eZ x E _ [eMac E c, eO s.a 0 [.ref c.a, .ref s.dq, .ref s.sb], eAD E s.dq s.da s.dh (hA s.hs), eMacs E s.hs, eSB E s.sb s.sv s.sN s.ml s.tx.length s.tf, eSto s.S, rs] 100 [some (.ref s.a), some (.int (nI 7))] [.int (gOfC c.abs (nI 7))] 1 4
      refine z_pick (Γ' := [eO s.a 0 [.ref c.a, .ref s.dq, .ref s.sb], eMac E c, eAD E s.dq s.da s.dh (hA s.hs), eMacs E s.hs, eSB E s.sb s.sv s.sN s.ml s.tx.length s.tf, eSto s.S, rs]) [1, 0, 2, 3, 4, 5, 6] (ePm 7 rfl (by decide +kernel)) rfl ?_
      refine z_join 6 (b := eSys E s) (by rw [eSys_cut, ← hcm]; rfl) rfl ?_
      show eZ x E _ [eSys E s, rs] 100 [some (.ref s.a), some (.int (nI 7))] [.int (gOfC c.abs (nI 7))] 1 4
      subst hQ_
      exact z_ret (Γ := [eSys E s]) C dX0_count_100 rfl rfl (Nat.le_of_ble_eq_true rfl) (Nat.le_of_ble_eq_true rfl) ⟨by rw [gCountQ, if_neg (by decide), if_neg (by decide), if_neg (by decide), if_neg (by decide), if_neg (by decide), if_neg (by decide), if_neg (by decide), if_pos (by decide)], rfl⟩
    · show eZ x E _ [eO s.a 0 [.ref c.a, .ref s.dq, .ref s.sb], eMac E c, eAD E s.dq s.da s.dh (hA s.hs), eMacs E s.hs, eSB E s.sb s.sv s.sN s.ml s.tx.length s.tf, eSto s.S, rs] 1 [some (.ref s.a), some (.int (nI 8))] [.int (nI 8)] 0 0
      refine z_tabIn (off := 91) 92 C dX0_count_1 (by decide) (by decide) (by decide) (by decide) ?_
      refine z_aload_n C dX0_count_92 rfl rfl ?_
      refine z_get eK0 0 0 C dX0_count_93 rfl rfl q399 (eSame1 rfl) (by decide) rfl ?_
      refine z_iload_n C dX0_count_96 rfl rfl ?_
      refine z_callS (As := [.ref c.a, .int (nI 8)]) (rest := []) (Δ := [eO s.a 0 [.ref c.a, .ref s.dq, .ref s.sb], eAD E s.dq s.da s.dh (hA s.hs), eMacs E s.hs, eSB E s.sb s.sv s.sN s.ml s.tx.length s.tf, eSto s.S, rs]) [1] [0, 2, 3, 4, 5, 6] 2 (m_ofCrates hl E c hok2 (nI 8)) C dX0_count_97 rfl rfl rfl q1428 q1429 q49 q1430 (by decide +kernel) rfl (ePm 7 rfl (by decide +kernel)) rfl rfl ⟨Nat.le_of_ble_eq_true rfl, Nat.le_of_ble_eq_true rfl⟩ (Nat.le_trans eS0 (Nat.le_of_ble_eq_true rfl)) ⟨Nat.le_of_ble_eq_true rfl, Nat.le_of_ble_eq_true rfl⟩ (fun v_ Γ_ hp_ => ?_)
      obtain ⟨rfl, rfl⟩ := hp_
      show eZ x E _ [eMac E c, eO s.a 0 [.ref c.a, .ref s.dq, .ref s.sb], eAD E s.dq s.da s.dh (hA s.hs), eMacs E s.hs, eSB E s.sb s.sv s.sN s.ml s.tx.length s.tf, eSto s.S, rs] 100 [some (.ref s.a), some (.int (nI 8))] [.int (gOfC c.abs (nI 8))] 1 4
      refine z_pick (Γ' := [eO s.a 0 [.ref c.a, .ref s.dq, .ref s.sb], eMac E c, eAD E s.dq s.da s.dh (hA s.hs), eMacs E s.hs, eSB E s.sb s.sv s.sN s.ml s.tx.length s.tf, eSto s.S, rs]) [1, 0, 2, 3, 4, 5, 6] (ePm 7 rfl (by decide +kernel)) rfl ?_
      refine z_join 6 (b := eSys E s) (by rw [eSys_cut, ← hcm]; rfl) rfl ?_
      show eZ x E _ [eSys E s, rs] 100 [some (.ref s.a), some (.int (nI 8))] [.int (gOfC c.abs (nI 8))] 1 4
      subst hQ_
      exact z_ret (Γ := [eSys E s]) C dX0_count_100 rfl rfl (Nat.le_of_ble_eq_true rfl) (Nat.le_of_ble_eq_true rfl) ⟨by rw [gCountQ, if_neg (by decide), if_neg (by decide), if_neg (by decide), if_neg (by decide), if_neg (by decide), if_neg (by decide), if_neg (by decide), if_neg (by decide), if_pos (by decide)], rfl⟩
    · show eZ x E _ [eO s.a 0 [.ref c.a, .ref s.dq, .ref s.sb], eMac E c, eAD E s.dq s.da s.dh (hA s.hs), eMacs E s.hs, eSB E s.sb s.sv s.sN s.ml s.tx.length s.tf, eSto s.S, rs] 1 [some (.ref s.a), some (.int (nI 9))] [.int (nI 9)] 0 0
      refine z_tabIn (off := 124) 125 C dX0_count_1 (by decide) (by decide) (by decide) (by decide) ?_
      refine z_cut 1 (bs := [eO c.a 1 [.ref c.la, .ref c.ca, .ref c.ba, .ref c.sa, .int c.u.tk, .int c.u.cm, .int c.u.dk, .int c.u.co, .int c.u.wt, .int c.u.lk], eAL E c.la c.lq c.lm (lA c.lns), eLans 0 c.lns, eAL E c.ca c.cq c.cm (kA c.crs), eCrs c.crs, eLL c.ba c.bm (bX c.bk), eIA E c.sa 4 c.st]) rfl eMac_cut rfl ?_
      show eZ x E _ [eO s.a 0 [.ref c.a, .ref s.dq, .ref s.sb], eO c.a 1 [.ref c.la, .ref c.ca, .ref c.ba, .ref c.sa, .int c.u.tk, .int c.u.cm, .int c.u.dk, .int c.u.co, .int c.u.wt, .int c.u.lk], eAL E c.la c.lq c.lm (lA c.lns), eLans 0 c.lns, eAL E c.ca c.cq c.cm (kA c.crs), eCrs c.crs, eLL c.ba c.bm (bX c.bk), eIA E c.sa 4 c.st, eAD E s.dq s.da s.dh (hA s.hs), eMacs E s.hs, eSB E s.sb s.sv s.sN s.ml s.tx.length s.tf, eSto s.S, rs] 125 [some (.ref s.a), some (.int (nI 9))] [] 0 0
      refine z_aload_n C dX0_count_125 rfl rfl ?_
      refine z_get eK0 0 0 C dX0_count_126 rfl rfl q399 (eSame1 rfl) (by decide) rfl ?_
      refine z_getN eK1 1 9 C dX0_count_129 rfl rfl q326 (eSame1 rfl) (by decide) rfl ?_
      refine z_pick (Γ' := [eO c.a 1 [.ref c.la, .ref c.ca, .ref c.ba, .ref c.sa, .int c.u.tk, .int c.u.cm, .int c.u.dk, .int c.u.co, .int c.u.wt, .int c.u.lk], eAL E c.la c.lq c.lm (lA c.lns), eLans 0 c.lns, eAL E c.ca c.cq c.cm (kA c.crs), eCrs c.crs, eLL c.ba c.bm (bX c.bk), eIA E c.sa 4 c.st, eO s.a 0 [.ref c.a, .ref s.dq, .ref s.sb], eAD E s.dq s.da s.dh (hA s.hs), eMacs E s.hs, eSB E s.sb s.sv s.sN s.ml s.tx.length s.tf, eSto s.S, rs]) [1, 2, 3, 4, 5, 6, 7, 0, 8, 9, 10, 11, 12] (ePm 13 rfl (by decide +kernel)) rfl ?_
      refine z_join 7 (b := eMac E c) eMac_cut.symm rfl ?_
      show eZ x E _ [eMac E c, eO s.a 0 [.ref c.a, .ref s.dq, .ref s.sb], eAD E s.dq s.da s.dh (hA s.hs), eMacs E s.hs, eSB E s.sb s.sv s.sN s.ml s.tx.length s.tf, eSto s.S, rs] 132 [some (.ref s.a), some (.int (nI 9))] [.int c.u.lk] 0 0
      refine z_pick (Γ' := [eO s.a 0 [.ref c.a, .ref s.dq, .ref s.sb], eMac E c, eAD E s.dq s.da s.dh (hA s.hs), eMacs E s.hs, eSB E s.sb s.sv s.sN s.ml s.tx.length s.tf, eSto s.S, rs]) [1, 0, 2, 3, 4, 5, 6] (ePm 7 rfl (by decide +kernel)) rfl ?_
      refine z_join 6 (b := eSys E s) (by rw [eSys_cut, ← hcm]; rfl) rfl ?_
      show eZ x E _ [eSys E s, rs] 132 [some (.ref s.a), some (.int (nI 9))] [.int c.u.lk] 0 0
      subst hQ_
      exact z_ret (Γ := [eSys E s]) C dX0_count_132 rfl rfl (Nat.le_of_ble_eq_true rfl) (Nat.le_of_ble_eq_true rfl) ⟨by rw [gCountQ, if_neg (by decide), if_neg (by decide), if_neg (by decide), if_neg (by decide), if_neg (by decide), if_neg (by decide), if_neg (by decide), if_neg (by decide), if_neg (by decide), if_pos (by decide)]; rfl, rfl⟩
    · show eZ x E _ [eO s.a 0 [.ref c.a, .ref s.dq, .ref s.sb], eMac E c, eAD E s.dq s.da s.dh (hA s.hs), eMacs E s.hs, eSB E s.sb s.sv s.sN s.ml s.tx.length s.tf, eSto s.S, rs] 1 [some (.ref s.a), some (.int (nI 10))] [.int (nI 10)] 0 0
      refine z_tabIn (off := 132) 133 C dX0_count_1 (by decide) (by decide) (by decide) (by decide) ?_
      refine z_cut 1 (bs := [eO c.a 1 [.ref c.la, .ref c.ca, .ref c.ba, .ref c.sa, .int c.u.tk, .int c.u.cm, .int c.u.dk, .int c.u.co, .int c.u.wt, .int c.u.lk], eAL E c.la c.lq c.lm (lA c.lns), eLans 0 c.lns, eAL E c.ca c.cq c.cm (kA c.crs), eCrs c.crs, eLL c.ba c.bm (bX c.bk), eIA E c.sa 4 c.st]) rfl eMac_cut rfl ?_
      show eZ x E _ [eO s.a 0 [.ref c.a, .ref s.dq, .ref s.sb], eO c.a 1 [.ref c.la, .ref c.ca, .ref c.ba, .ref c.sa, .int c.u.tk, .int c.u.cm, .int c.u.dk, .int c.u.co, .int c.u.wt, .int c.u.lk], eAL E c.la c.lq c.lm (lA c.lns), eLans 0 c.lns, eAL E c.ca c.cq c.cm (kA c.crs), eCrs c.crs, eLL c.ba c.bm (bX c.bk), eIA E c.sa 4 c.st, eAD E s.dq s.da s.dh (hA s.hs), eMacs E s.hs, eSB E s.sb s.sv s.sN s.ml s.tx.length s.tf, eSto s.S, rs] 133 [some (.ref s.a), some (.int (nI 10))] [] 0 0
      refine z_aload_n C dX0_count_133 rfl rfl ?_
      refine z_get eK0 0 0 C dX0_count_134 rfl rfl q399 (eSame1 rfl) (by decide) rfl ?_
      refine z_getN eK1 1 2 C dX0_count_137 rfl rfl q312 (eSame1 rfl) (by decide) rfl ?_
      refine z_callV (r := (RJ4, TJ4, 4)) (As := []) (rest := []) (Δ := [eO s.a 0 [.ref c.a, .ref s.dq, .ref s.sb], eO c.a 1 [.ref c.la, .ref c.ca, .ref c.ba, .ref c.sa, .int c.u.tk, .int c.u.cm, .int c.u.dk, .int c.u.co, .int c.u.wt, .int c.u.lk], eAL E c.la c.lq c.lm (lA c.lns), eLans 0 c.lns, eAL E c.ca c.cq c.cm (kA c.crs), eCrs c.crs, eIA E c.sa 4 c.st, eAD E s.dq s.da s.dh (hA s.hs), eMacs E s.hs, eSB E s.sb s.sv s.sN s.ml s.tx.length s.tf, eSto s.S, rs]) [6] [0, 1, 2, 3, 4, 5, 7, 8, 9, 10, 11, 12] 0 (m_LL_size hl E c.ba c.bm (bX c.bk)) C dX0_count_140 rfl rfl (eIn (i := 6) rfl eLL_mem) rfl rfl q1338 q471 q1945 q55 q472 (by decide +kernel) rfl (ePm 13 rfl (by decide +kernel)) rfl rfl ⟨Nat.le_of_ble_eq_true rfl, Nat.le_of_ble_eq_true rfl⟩ (Nat.le_trans eS0 (Nat.le_of_ble_eq_true rfl)) ⟨Nat.le_of_ble_eq_true rfl, Nat.le_of_ble_eq_true rfl⟩ (fun v_ Γ_ hp_ => ?_)
      obtain ⟨rfl, rfl⟩ := hp_
      show eZ x E _ [eLL c.ba c.bm (bX c.bk), eO s.a 0 [.ref c.a, .ref s.dq, .ref s.sb], eO c.a 1 [.ref c.la, .ref c.ca, .ref c.ba, .ref c.sa, .int c.u.tk, .int c.u.cm, .int c.u.dk, .int c.u.co, .int c.u.wt, .int c.u.lk], eAL E c.la c.lq c.lm (lA c.lns), eLans 0 c.lns, eAL E c.ca c.cq c.cm (kA c.crs), eCrs c.crs, eIA E c.sa 4 c.st, eAD E s.dq s.da s.dh (hA s.hs), eMacs E s.hs, eSB E s.sb s.sv s.sN s.ml s.tx.length s.tf, eSto s.S, rs] 143 [some (.ref s.a), some (.int (nI 10))] [.int (nI (bX c.bk).length)] 0 0
      refine z_pick (Γ' := [eO c.a 1 [.ref c.la, .ref c.ca, .ref c.ba, .ref c.sa, .int c.u.tk, .int c.u.cm, .int c.u.dk, .int c.u.co, .int c.u.wt, .int c.u.lk], eAL E c.la c.lq c.lm (lA c.lns), eLans 0 c.lns, eAL E c.ca c.cq c.cm (kA c.crs), eCrs c.crs, eLL c.ba c.bm (bX c.bk), eIA E c.sa 4 c.st, eO s.a 0 [.ref c.a, .ref s.dq, .ref s.sb], eAD E s.dq s.da s.dh (hA s.hs), eMacs E s.hs, eSB E s.sb s.sv s.sN s.ml s.tx.length s.tf, eSto s.S, rs]) [2, 3, 4, 5, 6, 0, 7, 1, 8, 9, 10, 11, 12] (ePm 13 rfl (by decide +kernel)) rfl ?_
      refine z_join 7 (b := eMac E c) eMac_cut.symm rfl ?_
      show eZ x E _ [eMac E c, eO s.a 0 [.ref c.a, .ref s.dq, .ref s.sb], eAD E s.dq s.da s.dh (hA s.hs), eMacs E s.hs, eSB E s.sb s.sv s.sN s.ml s.tx.length s.tf, eSto s.S, rs] 143 [some (.ref s.a), some (.int (nI 10))] [.int (nI (bX c.bk).length)] 0 0
      refine z_pick (Γ' := [eO s.a 0 [.ref c.a, .ref s.dq, .ref s.sb], eMac E c, eAD E s.dq s.da s.dh (hA s.hs), eMacs E s.hs, eSB E s.sb s.sv s.sN s.ml s.tx.length s.tf, eSto s.S, rs]) [1, 0, 2, 3, 4, 5, 6] (ePm 7 rfl (by decide +kernel)) rfl ?_
      refine z_join 6 (b := eSys E s) (by rw [eSys_cut, ← hcm]; rfl) rfl ?_
      show eZ x E _ [eSys E s, rs] 143 [some (.ref s.a), some (.int (nI 10))] [.int (nI (bX c.bk).length)] 0 0
      subst hQ_
      exact z_ret (Γ := [eSys E s]) C dX0_count_143 rfl rfl (Nat.le_of_ble_eq_true rfl) (Nat.le_of_ble_eq_true rfl) ⟨by rw [gCountQ, if_neg (by decide), if_neg (by decide), if_neg (by decide), if_neg (by decide), if_neg (by decide), if_neg (by decide), if_neg (by decide), if_neg (by decide), if_neg (by decide), if_neg (by decide), if_pos (by decide)]; show some (Value.int (nI (bX c.bk).length)) = some (Value.int (nI (c.bk.map Prod.snd).length)); rw [List.length_map, List.length_map], rfl⟩
    · show eZ x E _ [eO s.a 0 [.ref c.a, .ref s.dq, .ref s.sb], eMac E c, eAD E s.dq s.da s.dh (hA s.hs), eMacs E s.hs, eSB E s.sb s.sv s.sN s.ml s.tx.length s.tf, eSto s.S, rs] 1 [some (.ref s.a), some (.int (nI 11))] [.int (nI 11)] 0 0
      refine z_tabIn (off := 143) 144 C dX0_count_1 (by decide) (by decide) (by decide) (by decide) ?_
      refine z_aload_n C dX0_count_144 rfl rfl ?_
      refine z_get eK0 0 1 C dX0_count_145 rfl rfl q400 (eSame1 rfl) (by decide) rfl ?_
      refine z_callV (r := (RJ8, TJ8, 3)) (As := []) (rest := []) (Δ := [eO s.a 0 [.ref c.a, .ref s.dq, .ref s.sb], eMac E c, eMacs E s.hs, eSB E s.sb s.sv s.sN s.ml s.tx.length s.tf, eSto s.S, rs]) [2] [0, 1, 3, 4, 5, 6] 0 (m_AD_size hl E s.dq s.da s.dh (hA s.hs) hs5 (by rw [List.length_map]; omega)) C dX0_count_148 rfl rfl (eIn (i := 2) rfl eAD_mem) rfl rfl q1293 q1043 q1950 q62 q1044 (by decide +kernel) rfl (ePm 7 rfl (by decide +kernel)) rfl rfl ⟨Nat.le_of_ble_eq_true rfl, Nat.le_of_ble_eq_true rfl⟩ (Nat.le_trans eS0 (Nat.le_of_ble_eq_true rfl)) ⟨Nat.le_of_ble_eq_true rfl, Nat.le_of_ble_eq_true rfl⟩ (fun v_ Γ_ hp_ => ?_)
      obtain ⟨rfl, rfl⟩ := hp_
      show eZ x E _ [eAD E s.dq s.da s.dh (hA s.hs), eO s.a 0 [.ref c.a, .ref s.dq, .ref s.sb], eMac E c, eMacs E s.hs, eSB E s.sb s.sv s.sN s.ml s.tx.length s.tf, eSto s.S, rs] 151 [some (.ref s.a), some (.int (nI 11))] [.int (nI (hA s.hs).length)] 0 0
      refine z_pick (Γ' := [eO s.a 0 [.ref c.a, .ref s.dq, .ref s.sb], eMac E c, eAD E s.dq s.da s.dh (hA s.hs), eMacs E s.hs, eSB E s.sb s.sv s.sN s.ml s.tx.length s.tf, eSto s.S, rs]) [1, 2, 0, 3, 4, 5, 6] (ePm 7 rfl (by decide +kernel)) rfl ?_
      refine z_join 6 (b := eSys E s) (by rw [eSys_cut, ← hcm]; rfl) rfl ?_
      show eZ x E _ [eSys E s, rs] 151 [some (.ref s.a), some (.int (nI 11))] [.int (nI (hA s.hs).length)] 0 0
      subst hQ_
      exact z_ret (Γ := [eSys E s]) C dX0_count_151 rfl rfl (Nat.le_of_ble_eq_true rfl) (Nat.le_of_ble_eq_true rfl) ⟨by rw [gCountQ, if_neg (by decide), if_neg (by decide), if_neg (by decide), if_neg (by decide), if_neg (by decide), if_neg (by decide), if_neg (by decide), if_neg (by decide), if_neg (by decide), if_neg (by decide), if_neg (by decide), if_pos (by decide)]; show some (Value.int (nI (hA s.hs).length)) = some (Value.int (nI (s.hs.map Cm.abs).length)); rw [List.length_map, List.length_map], rfl⟩
    · show eZ x E _ [eO s.a 0 [.ref c.a, .ref s.dq, .ref s.sb], eMac E c, eAD E s.dq s.da s.dh (hA s.hs), eMacs E s.hs, eSB E s.sb s.sv s.sN s.ml s.tx.length s.tf, eSto s.S, rs] 1 [some (.ref s.a), some (.int (nI 12))] [.int (nI 12)] 0 0
      refine z_tabIn (off := 151) 152 C dX0_count_1 (by decide) (by decide) (by decide) (by decide) ?_
      refine z_aload_n C dX0_count_152 rfl rfl ?_
      refine z_get eK0 0 2 C dX0_count_153 rfl rfl q402 (eSame1 rfl) (by decide) rfl ?_
      refine z_callV (r := (RJ10, TJ10, 4)) (As := []) (rest := []) (Δ := [eO s.a 0 [.ref c.a, .ref s.dq, .ref s.sb], eMac E c, eAD E s.dq s.da s.dh (hA s.hs), eMacs E s.hs, eSto s.S, rs]) [4] [0, 1, 2, 3, 5, 6] 0 (m_SB_length hl E s.sb s.sv s.sN s.ml s.tx.length s.tf) C dX0_count_156 rfl rfl (eIn (i := 4) rfl eSB_mem) rfl rfl q1454 q744 q1952 q64 q745 (by decide +kernel) rfl (ePm 7 rfl (by decide +kernel)) rfl rfl ⟨Nat.le_of_ble_eq_true rfl, Nat.le_of_ble_eq_true rfl⟩ (Nat.le_trans eS0 (Nat.le_of_ble_eq_true rfl)) ⟨Nat.le_of_ble_eq_true rfl, Nat.le_of_ble_eq_true rfl⟩ (fun v_ Γ_ hp_ => ?_)
      obtain ⟨rfl, rfl⟩ := hp_
      show eZ x E _ [eSB E s.sb s.sv s.sN s.ml s.tx.length s.tf, eO s.a 0 [.ref c.a, .ref s.dq, .ref s.sb], eMac E c, eAD E s.dq s.da s.dh (hA s.hs), eMacs E s.hs, eSto s.S, rs] 159 [some (.ref s.a), some (.int (nI 12))] [.int (nI s.tx.length)] 0 0
      refine z_pick (Γ' := [eO s.a 0 [.ref c.a, .ref s.dq, .ref s.sb], eMac E c, eAD E s.dq s.da s.dh (hA s.hs), eMacs E s.hs, eSB E s.sb s.sv s.sN s.ml s.tx.length s.tf, eSto s.S, rs]) [1, 2, 3, 4, 0, 5, 6] (ePm 7 rfl (by decide +kernel)) rfl ?_
      refine z_join 6 (b := eSys E s) (by rw [eSys_cut, ← hcm]; rfl) rfl ?_
      show eZ x E _ [eSys E s, rs] 159 [some (.ref s.a), some (.int (nI 12))] [.int (nI s.tx.length)] 0 0
      subst hQ_
      exact z_ret (Γ := [eSys E s]) C dX0_count_159 rfl rfl (Nat.le_of_ble_eq_true rfl) (Nat.le_of_ble_eq_true rfl) ⟨by rw [gCountQ, if_neg (by decide), if_neg (by decide), if_neg (by decide), if_neg (by decide), if_neg (by decide), if_neg (by decide), if_neg (by decide), if_neg (by decide), if_neg (by decide), if_neg (by decide), if_neg (by decide), if_neg (by decide), if_pos (by decide)], rfl⟩
  · obtain ⟨ho, e0, e1, e2, e3, e4, e5, e6, e7, e8, e9, e10, e11, e12⟩ := eNe12 hw
    refine z_tabOut 160 C dX0_count_1 ho (by decide) ?_
    refine z_iload_n C dX0_count_160 rfl rfl ?_
    refine z_i2l (v := v.toInt64) C dX0_count_161 rfl ?_
    refine z_ldc2 C dX0_count_162 rfl q1455 ?_
    refine z_ldc2 C dX0_count_165 rfl q1456 ?_
    refine z_callS (As := [.long v.toInt64, .long 20, .long 23]) (rest := []) (Δ := [eO s.a 0 [.ref c.a, .ref s.dq, .ref s.sb], eMac E c, eAD E s.dq s.da s.dh (hA s.hs), eMacs E s.hs, eSB E s.sb s.sv s.sN s.ml s.tx.length s.tf, eSto s.S, rs]) [] [0, 1, 2, 3, 4, 5, 6] 3 (m_bt hl E v 20 23 20 23 (by decide) (by decide)) C dX0_count_168 rfl rfl rfl q986 q987 q49 q988 (by decide +kernel) rfl (ePm 7 rfl (by decide +kernel)) rfl rfl ⟨Nat.le_of_ble_eq_true rfl, Nat.le_of_ble_eq_true rfl⟩ (Nat.le_trans eS0 (Nat.le_of_ble_eq_true rfl)) ⟨Nat.le_of_ble_eq_true rfl, Nat.le_of_ble_eq_true rfl⟩ (fun v_ Γ_ hp_ => ?_)
    obtain ⟨rfl, rfl⟩ := hp_
    show eZ x E _ [eO s.a 0 [.ref c.a, .ref s.dq, .ref s.sb], eMac E c, eAD E s.dq s.da s.dh (hA s.hs), eMacs E s.hs, eSB E s.sb s.sv s.sN s.ml s.tx.length s.tf, eSto s.S, rs] 171 [some (.ref s.a), some (.int v)] [.int (eB (eBt v 20 23))] 0 0
    refine z_if_eq_B 189 C dX0_count_171 (by decide) (fun hb => ?_) (fun hb => ?_)
    · refine z_ldc C dX0_count_189 rfl q1335 ?_
      refine z_pick (Γ' := [eO s.a 0 [.ref c.a, .ref s.dq, .ref s.sb], eMac E c, eAD E s.dq s.da s.dh (hA s.hs), eMacs E s.hs, eSB E s.sb s.sv s.sN s.ml s.tx.length s.tf, eSto s.S, rs]) [0, 1, 2, 3, 4, 5, 6] (ePm 7 rfl (by decide +kernel)) rfl ?_
      refine z_join 6 (b := eSys E s) (by rw [eSys_cut, ← hcm]; rfl) rfl ?_
      show eZ x E _ [eSys E s, rs] 191 [some (.ref s.a), some (.int v)] [.int (-1000001)] 0 0
      subst hQ_
      exact z_ret (Γ := [eSys E s]) C dX0_count_191 rfl rfl (Nat.le_of_ble_eq_true rfl) (Nat.le_of_ble_eq_true rfl) ⟨by rw [gCountQ, if_neg e0, if_neg e1, if_neg e2, if_neg e3, if_neg e4, if_neg e5, if_neg e6, if_neg e7, if_neg e8, if_neg e9, if_neg e10, if_neg e11, if_neg e12, if_neg (by rw [hb]; decide)], rfl⟩
    · have hv := hb
      obtain ⟨K, hK, rfl⟩ := eB20 hb
      have hsub : nI (20 + K) - 20 = nI K := by rw [show (20 : Int32) = nI 20 from rfl]; exact eSubN 20 K
      refine z_cut 1 (bs := [eO c.a 1 [.ref c.la, .ref c.ca, .ref c.ba, .ref c.sa, .int c.u.tk, .int c.u.cm, .int c.u.dk, .int c.u.co, .int c.u.wt, .int c.u.lk], eAL E c.la c.lq c.lm (lA c.lns), eLans 0 c.lns, eAL E c.ca c.cq c.cm (kA c.crs), eCrs c.crs, eLL c.ba c.bm (bX c.bk), eIA E c.sa 4 c.st]) rfl eMac_cut rfl ?_
      show eZ x E _ [eO s.a 0 [.ref c.a, .ref s.dq, .ref s.sb], eO c.a 1 [.ref c.la, .ref c.ca, .ref c.ba, .ref c.sa, .int c.u.tk, .int c.u.cm, .int c.u.dk, .int c.u.co, .int c.u.wt, .int c.u.lk], eAL E c.la c.lq c.lm (lA c.lns), eLans 0 c.lns, eAL E c.ca c.cq c.cm (kA c.crs), eCrs c.crs, eLL c.ba c.bm (bX c.bk), eIA E c.sa 4 c.st, eAD E s.dq s.da s.dh (hA s.hs), eMacs E s.hs, eSB E s.sb s.sv s.sN s.ml s.tx.length s.tf, eSto s.S, rs] 174 [some (.ref s.a), some (.int (nI (20 + K)))] [] 0 0
      show eZ x E _ [eO s.a 0 [.ref c.a, .ref s.dq, .ref s.sb], eO c.a 1 [.ref c.la, .ref c.ca, .ref c.ba, .ref c.sa, .int c.u.tk, .int c.u.cm, .int c.u.dk, .int c.u.co, .int c.u.wt, .int c.u.lk], eAL E c.la c.lq c.lm (lA c.lns), eLans 0 c.lns, eAL E c.ca c.cq c.cm (kA c.crs), eCrs c.crs, eLL c.ba c.bm (bX c.bk), eIA E c.sa 4 c.st, eAD E s.dq s.da s.dh (hA s.hs), eMacs E s.hs, eSB E s.sb s.sv s.sN s.ml s.tx.length s.tf, eSto s.S, rs] 174 [some (.ref s.a), some (.int (nI (20 + K)))] [] 0 0
      refine z_aload_n C dX0_count_174 rfl rfl ?_
      refine z_get eK0 0 0 C dX0_count_175 rfl rfl q399 (eSame1 rfl) (by decide) rfl ?_
      refine z_getN eK1 1 3 C dX0_count_178 rfl rfl q314 (eSame1 rfl) (by decide) rfl ?_
      refine z_iload_n C dX0_count_181 rfl rfl ?_
      refine z_bipush (v := 20) C dX0_count_182 (by decide) ?_
      refine z_isub (w := nI K) C dX0_count_184 hsub ?_
      refine z_iald (m := K) (v := c.st K) 7 C dX0_count_185 rfl rfl (by omega) (by decide) rfl ?_
      refine z_goto 191 C dX0_count_186 (by decide) ?_
      refine z_pick (Γ' := [eO c.a 1 [.ref c.la, .ref c.ca, .ref c.ba, .ref c.sa, .int c.u.tk, .int c.u.cm, .int c.u.dk, .int c.u.co, .int c.u.wt, .int c.u.lk], eAL E c.la c.lq c.lm (lA c.lns), eLans 0 c.lns, eAL E c.ca c.cq c.cm (kA c.crs), eCrs c.crs, eLL c.ba c.bm (bX c.bk), eIA E c.sa 4 c.st, eO s.a 0 [.ref c.a, .ref s.dq, .ref s.sb], eAD E s.dq s.da s.dh (hA s.hs), eMacs E s.hs, eSB E s.sb s.sv s.sN s.ml s.tx.length s.tf, eSto s.S, rs]) [1, 2, 3, 4, 5, 6, 7, 0, 8, 9, 10, 11, 12] (ePm 13 rfl (by decide +kernel)) rfl ?_
      refine z_join 7 (b := eMac E c) eMac_cut.symm rfl ?_
      show eZ x E _ [eMac E c, eO s.a 0 [.ref c.a, .ref s.dq, .ref s.sb], eAD E s.dq s.da s.dh (hA s.hs), eMacs E s.hs, eSB E s.sb s.sv s.sN s.ml s.tx.length s.tf, eSto s.S, rs] 191 [some (.ref s.a), some (.int (nI (20 + K)))] [.int (c.st K)] 0 0
      refine z_pick (Γ' := [eO s.a 0 [.ref c.a, .ref s.dq, .ref s.sb], eMac E c, eAD E s.dq s.da s.dh (hA s.hs), eMacs E s.hs, eSB E s.sb s.sv s.sN s.ml s.tx.length s.tf, eSto s.S, rs]) [1, 0, 2, 3, 4, 5, 6] (ePm 7 rfl (by decide +kernel)) rfl ?_
      refine z_join 6 (b := eSys E s) (by rw [eSys_cut, ← hcm]; rfl) rfl ?_
      show eZ x E _ [eSys E s, rs] 191 [some (.ref s.a), some (.int (nI (20 + K)))] [.int (c.st K)] 0 0
      subst hQ_
      exact z_ret (Γ := [eSys E s]) C dX0_count_191 rfl rfl (Nat.le_of_ble_eq_true rfl) (Nat.le_of_ble_eq_true rfl) ⟨by rw [gCountQ, if_neg e0, if_neg e1, if_neg e2, if_neg e3, if_neg e4, if_neg e5, if_neg e6, if_neg e7, if_neg e8, if_neg e9, if_neg e10, if_neg e11, if_neg e12, if_pos hv, hsub, nN_nI (by omega)]; rfl, rfl⟩
