/-! ===== the model: ifRun, undo, texts, count, constructor ===== -/
set_option maxRecDepth 100000
def mC (g f : Nat → Int32) (i : Nat) : Nat → Int32 := fun k => if k < i then f k else g k
theorem mC_0 (g f : Nat → Int32) : mC g f 0 = g := by funext k; exact if_neg (Nat.not_lt_zero k)
theorem mC_s (g f : Nat → Int32) (i : Nat) : mC g f (i + 1) = upd (mC g f i) i (f i) := by
  funext k
  by_cases hk : k = i
  · subst hk; rw [upd_self_]; exact if_pos (Nat.lt_succ_self k)
  · rw [upd_ne_ hk]
    unfold mC
    by_cases h2 : k < i
    · rw [if_pos h2, if_pos (by omega)]
    · rw [if_neg h2, if_neg (by omega)]
theorem mC_at {g f : Nat → Int32} {k : Nat} (h : k < 311) : mC g f 311 k = f k := if_pos h
theorem i32_ring (a b c d : Int32) : a - b + c - d = a + c - b - d := by
  simp only [Int32.sub_eq_add_neg]
  rw [Int32.add_assoc a, Int32.add_comm (-b) c, ← Int32.add_assoc a]
def tR (tf : Nat → Int32) (ty : Int32) (tx : List Nat) : Prop := ty = nI tx.length ∧ tx.length ≤ 60 ∧ ∀ i c, tx[i]? = some c → tf i = nI c
theorem eNe23 {w : Int32} (h : ¬ eBt w 0 23 = true) : (w.toInt < 0 ∨ 23 < w.toInt) ∧ w ≠ 0 ∧ w ≠ 1 ∧ w ≠ 2 ∧ w ≠ 3 ∧ w ≠ 4 ∧ w ≠ 5 ∧ w ≠ 6 ∧ w ≠ 7 ∧ w ≠ 8 ∧ w ≠ 9 ∧ w ≠ 10 ∧ w ≠ 11 ∧ w ≠ 12 ∧ ¬ eBt w 20 23 = true := by
  refine ⟨?_, ?_, ?_, ?_, ?_, ?_, ?_, ?_, ?_, ?_, ?_, ?_, ?_, ?_, ?_⟩
  · have h1 : ¬ (0 ≤ w ∧ w ≤ 23) := fun h2 => h (decide_eq_true h2)
    by_cases h2 : (0 : Int32) ≤ w
    · right
      have h3 : ¬ w ≤ 23 := fun h4 => h1 ⟨h2, h4⟩
      exact Int32.lt_iff_toInt_lt.mp (Int32.not_le.mp h3)
    · left
      exact Int32.lt_iff_toInt_lt.mp (Int32.not_le.mp h2)
  case refine_15 => intro h9; exact h (eBt_mono h9 (by decide) (by decide))
  all_goals (intro e; subst e; exact h (by decide))

set_option maxHeartbeats 4000000 in
theorem m_Mcopies {l : Launch} (hl : l.stackTraces = false) (E : eEn) (p q : Nat) (f g : Nat → Int32) : eMet l E yX4_copies (ws_ yX4_copies cX4_copies 3 none) ({ frames := 0, cells := 0, slots := 0, locals := 0 }) [.ref p, .ref q] [eIA E p 311 f, eIA E q 311 g] (fun w Γ => w = none ∧ Γ = [eIA E p 311 f, eIA E q 311 (mC g f 311)]) := by
  refine eStart (cc := cX4_copies) (nL := 3) (L := [some (.ref p), some (.ref q), none]) hl (by decide) rfl (List.forall_mem_cons.mpr ⟨rfl, (List.forall_mem_cons.mpr ⟨rfl, (fun _ h => absurd h List.not_mem_nil)⟩)⟩) (Nat.le_of_ble_eq_true rfl) ?_
  intro x rs C
  show eZ x E (eQ x E (fun w Γ => w = none ∧ Γ = [eIA E p 311 f, eIA E q 311 (mC g f 311)]) rs) [eIA E p 311 f, eIA E q 311 g, rs] 0 [some (.ref p), some (.ref q), none] [] 0 0
  generalize hQ_ : eQ x E (fun w Γ => w = none ∧ Γ = [eIA E p 311 f, eIA E q 311 (mC g f 311)]) rs = Q_
  refine z_iconst (v := 0) C dX4_copies_0 (by decide) ?_
  refine z_istore_n (L2 := [some (.ref p), some (.ref q), some (.int 0)]) C dX4_copies_1 rfl (Nat.le_of_ble_eq_true rfl) rfl ?_
  have K : ∀ (d i : Nat), i + d = 311 → eZ x E Q_ [eIA E p 311 f, eIA E q 311 (mC g f i), rs] 2 [some (.ref p), some (.ref q), some (.int (nI i))] [] 0 0 := by
    intro d
    induction d with
    | zero =>
        intro i hi
        obtain rfl : i = 311 := by omega
        refine z_iload_n C dX4_copies_2 rfl rfl ?_
        refine z_sipush (v := 311) C dX4_copies_3 (by decide) ?_
        refine z_icmp_ge 21 C dX4_copies_6 (by decide) (fun h_ => ?_) (fun h_ => absurd h_ (absurd (by decide) h_))
        subst hQ_
        exact z_vret (Γ := [eIA E p 311 f, eIA E q 311 (mC g f 311)]) C dX4_copies_21 rfl (Nat.le_of_ble_eq_true rfl) (Nat.le_of_ble_eq_true rfl) ⟨rfl, rfl⟩
    | succ d ih =>
        intro i hi
        refine z_iload_n C dX4_copies_2 rfl rfl ?_
        refine z_sipush (v := 311) C dX4_copies_3 (by decide) ?_
        refine z_icmp_ge 21 C dX4_copies_6 (by decide) (fun h_ => absurd h_ (nI_ge (a := i) (b := 311) (by omega) (by decide))) (fun h_ => ?_)
        refine z_aload_n C dX4_copies_9 rfl rfl ?_
        refine z_iload_n C dX4_copies_10 rfl rfl ?_
        refine z_aload_n C dX4_copies_11 rfl rfl ?_
        refine z_iload_n C dX4_copies_12 rfl rfl ?_
        refine z_iald (m := i) (v := f i) 0 C dX4_copies_13 rfl rfl (by omega) (by decide) rfl ?_
        refine z_iast (m := i) (Γ2 := [eIA E p 311 f, eIA E q 311 (mC g f (i + 1)), rs]) 1 C dX4_copies_14 rfl rfl (by omega) (by decide) (by rw [mC_s]; rfl) ?_
        refine z_iinc (v := nI (i + 1)) (L2 := [some (.ref p), some (.ref q), some (.int (nI (i + 1)))]) C dX4_copies_15 rfl (nI_1 i) rfl ?_
        refine z_goto 2 C dX4_copies_18 (by decide) ?_
        exact ih (i + 1) (by omega)
  refine z_go (Γ' := [eIA E p 311 f, eIA E q 311 (mC g f 0), rs]) (by rw [mC_0]) ?_
  exact K 311 0 rfl

set_option maxHeartbeats 4000000 in
theorem m_MifRun {l : Launch} (hl : l.stackTraces = false) (E : eEn) (a : Nat) (o : Mo) (f : Nat → Int32) (A : Am) (hok : gOk A) (hwf : gWf A) (R : Rep f A) (g : Nat → Int32) (n w : Int32) : eMet l E yX4_ifRun (ws_ yX4_ifRun cX4_ifRun 6 (some .int)) ({ frames := 7, cells := 0, slots := 0, locals := 158 }) [.ref a, .int n, .int w] [eO a 4 [.ref o.sa, .ref o.pa, .ref o.ha, .ref o.xa, .int o.pn, .int o.ru, .ref o.ta, .int o.ty, .int o.sp, .int o.fr, .int o.re, .int o.ca, .int o.os, .int o.od, .ref o.na], eIA E o.sa 311 f, eIA E o.xa 311 g] (fun w_ Γ => ∃ f2 g2, w_ = some (.int (gIfRunQ A n w)) ∧ Γ = [eMO a o, eIA E o.sa 311 f2, eIA E o.xa 311 g2] ∧ Rep f2 A) := by
  refine eStart (cc := cX4_ifRun) (nL := 6) (L := [some (.ref a), some (.int n), some (.int w), none, none, none]) hl (by decide) rfl (List.forall_mem_cons.mpr ⟨rfl, (List.forall_mem_cons.mpr ⟨rfl, (List.forall_mem_cons.mpr ⟨rfl, (fun _ h => absurd h List.not_mem_nil)⟩)⟩)⟩) (Nat.le_of_ble_eq_true rfl) ?_
  intro x rs C
  show eZ x E (eQ x E (fun w_ Γ => ∃ f2 g2, w_ = some (.int (gIfRunQ A n w)) ∧ Γ = [eMO a o, eIA E o.sa 311 f2, eIA E o.xa 311 g2] ∧ Rep f2 A) rs) [eO a 4 [.ref o.sa, .ref o.pa, .ref o.ha, .ref o.xa, .int o.pn, .int o.ru, .ref o.ta, .int o.ty, .int o.sp, .int o.fr, .int o.re, .int o.ca, .int o.os, .int o.od, .ref o.na], eIA E o.sa 311 f, eIA E o.xa 311 g, rs] 0 [some (.ref a), some (.int n), some (.int w), none, none, none] [] 0 0
  generalize hQ_ : eQ x E (fun w_ Γ => ∃ f2 g2, w_ = some (.int (gIfRunQ A n w)) ∧ Γ = [eMO a o, eIA E o.sa 311 f2, eIA E o.xa 311 g2] ∧ Rep f2 A) rs = Q_
  refine z_iload_n C dX4_ifRun_0 rfl rfl ?_
  refine z_iconst (v := 1) C dX4_ifRun_1 (by decide) ?_
  refine z_bipush (v := 50) C dX4_ifRun_2 (by decide) ?_
  refine z_callS (As := [.int n, .int 1, .int 50]) (rest := []) (Δ := [eO a 4 [.ref o.sa, .ref o.pa, .ref o.ha, .ref o.xa, .int o.pn, .int o.ru, .ref o.ta, .int o.ty, .int o.sp, .int o.fr, .int o.re, .int o.ca, .int o.os, .int o.od, .ref o.na], eIA E o.sa 311 f, eIA E o.xa 311 g, rs]) [] [0, 1, 2, 3] 3 (m_Min hl E n 1 50) C dX4_ifRun_4 rfl rfl rfl q1724 q1725 q67 q1726 (by decide +kernel) rfl (ePm 4 rfl (by decide +kernel)) rfl rfl ⟨Nat.le_of_ble_eq_true rfl, Nat.le_of_ble_eq_true rfl⟩ (Nat.le_trans eS0 (Nat.le_of_ble_eq_true rfl)) ⟨Nat.le_of_ble_eq_true rfl, Nat.le_of_ble_eq_true rfl⟩ (fun v_ Γ_ hp_ => ?_)
  obtain ⟨rfl, rfl⟩ := hp_
  show eZ x E _ [eO a 4 [.ref o.sa, .ref o.pa, .ref o.ha, .ref o.xa, .int o.pn, .int o.ru, .ref o.ta, .int o.ty, .int o.sp, .int o.fr, .int o.re, .int o.ca, .int o.os, .int o.od, .ref o.na], eIA E o.sa 311 f, eIA E o.xa 311 g, rs] 7 [some (.ref a), some (.int n), some (.int w), none, none, none] [.int (eB (eBt n 1 50))] 0 0
  refine z_if_eq_B 19 C dX4_ifRun_7 (by decide) (fun h1 => ?_) (fun h1 => ?_)
  · refine z_ldc C dX4_ifRun_19 rfl q1727 ?_
    subst hQ_
    exact z_ret (Γ := [eO a 4 [.ref o.sa, .ref o.pa, .ref o.ha, .ref o.xa, .int o.pn, .int o.ru, .ref o.ta, .int o.ty, .int o.sp, .int o.fr, .int o.re, .int o.ca, .int o.os, .int o.od, .ref o.na], eIA E o.sa 311 f, eIA E o.xa 311 g]) C dX4_ifRun_21 rfl rfl (Nat.le_of_ble_eq_true rfl) (Nat.le_of_ble_eq_true rfl) ⟨f, g, by rw [gIfRunQ, h1]; rfl, rfl, R⟩
  · refine z_iload_n C dX4_ifRun_10 rfl rfl ?_
    refine z_iconst (v := 0) C dX4_ifRun_11 (by decide) ?_
    refine z_iconst (v := 3) C dX4_ifRun_12 (by decide) ?_
    refine z_callS (As := [.int w, .int 0, .int 3]) (rest := []) (Δ := [eO a 4 [.ref o.sa, .ref o.pa, .ref o.ha, .ref o.xa, .int o.pn, .int o.ru, .ref o.ta, .int o.ty, .int o.sp, .int o.fr, .int o.re, .int o.ca, .int o.os, .int o.od, .ref o.na], eIA E o.sa 311 f, eIA E o.xa 311 g, rs]) [] [0, 1, 2, 3] 3 (m_Min hl E w 0 3) C dX4_ifRun_13 rfl rfl rfl q1724 q1725 q67 q1726 (by decide +kernel) rfl (ePm 4 rfl (by decide +kernel)) rfl rfl ⟨Nat.le_of_ble_eq_true rfl, Nat.le_of_ble_eq_true rfl⟩ (Nat.le_trans eS0 (Nat.le_of_ble_eq_true rfl)) ⟨Nat.le_of_ble_eq_true rfl, Nat.le_of_ble_eq_true rfl⟩ (fun v_ Γ_ hp_ => ?_)
    obtain ⟨rfl, rfl⟩ := hp_
    show eZ x E _ [eO a 4 [.ref o.sa, .ref o.pa, .ref o.ha, .ref o.xa, .int o.pn, .int o.ru, .ref o.ta, .int o.ty, .int o.sp, .int o.fr, .int o.re, .int o.ca, .int o.os, .int o.od, .ref o.na], eIA E o.sa 311 f, eIA E o.xa 311 g, rs] 16 [some (.ref a), some (.int n), some (.int w), none, none, none] [.int (eB (eBt w 0 3))] 0 0
    refine z_if_ne_B 22 C dX4_ifRun_16 (by decide) (fun h2 => ?_) (fun h2 => ?_)
    · have hif : (eBt n 1 50 && eBt w 0 3) = true := by rw [h1, h2]; rfl
      have hn50 : nN n ≤ 50 := nN_le (Int32.le_trans (by decide) (of_decide_eq_true h1).1) (of_decide_eq_true h1).2
      have hn : n = nI (nN n) := nI_nN (Int32.le_trans (by decide) (of_decide_eq_true h1).1)
      refine z_aload_n C dX4_ifRun_22 rfl rfl ?_
      refine z_get eK4 0 0 C dX4_ifRun_23 rfl rfl q1671 (eSame1 rfl) (by decide) rfl ?_
      refine z_aload_n C dX4_ifRun_26 rfl rfl ?_
      refine z_get eK4 0 3 C dX4_ifRun_27 rfl rfl q1674 (eSame1 rfl) (by decide) rfl ?_
      refine z_callS (As := [.ref o.sa, .ref o.xa]) (rest := []) (Δ := [eO a 4 [.ref o.sa, .ref o.pa, .ref o.ha, .ref o.xa, .int o.pn, .int o.ru, .ref o.ta, .int o.ty, .int o.sp, .int o.fr, .int o.re, .int o.ca, .int o.os, .int o.od, .ref o.na], rs]) [1, 2] [0, 3] 2 (m_Mcopies hl E o.sa o.xa f g) C dX4_ifRun_30 rfl rfl rfl q1866 q1867 q67 q1868 (by decide +kernel) rfl (ePm 4 rfl (by decide +kernel)) rfl rfl ⟨Nat.le_of_ble_eq_true rfl, Nat.le_of_ble_eq_true rfl⟩ (Nat.le_trans eS0 (Nat.le_of_ble_eq_true rfl)) ⟨Nat.le_of_ble_eq_true rfl, Nat.le_of_ble_eq_true rfl⟩ (fun v_ Γ_ hp_ => ?_)
      obtain ⟨rfl, rfl⟩ := hp_
      show eZ x E _ [eIA E o.sa 311 f, eIA E o.xa 311 (mC g f 311), eO a 4 [.ref o.sa, .ref o.pa, .ref o.ha, .ref o.xa, .int o.pn, .int o.ru, .ref o.ta, .int o.ty, .int o.sp, .int o.fr, .int o.re, .int o.ca, .int o.os, .int o.od, .ref o.na], rs] 33 [some (.ref a), some (.int n), some (.int w), none, none, none] [] 0 0
      refine z_aload_n C dX4_ifRun_33 rfl rfl ?_
      refine z_iload_n C dX4_ifRun_34 rfl rfl ?_
      refine z_is (w := nI (nN n)) hn ?_
      refine z_callV (r := (RX4, TX4, 15)) (As := [.int (nI (nN n))]) (rest := []) (Δ := [eIA E o.xa 311 (mC g f 311), rs]) [2, 0] [1, 3] 1 (m_Mpass hl E a o f A hok hwf R (nN n) hn50) C dX4_ifRun_35 rfl rfl (eIn (i := 2) rfl List.mem_cons_self) rfl rfl q1761 q1763 qs29 q67 q1764 (by decide +kernel) rfl (ePm 4 rfl (by decide +kernel)) rfl rfl ⟨Nat.le_of_ble_eq_true rfl, Nat.le_of_ble_eq_true rfl⟩ (Nat.le_trans eS0 (Nat.le_of_ble_eq_true rfl)) ⟨Nat.le_of_ble_eq_true rfl, Nat.le_of_ble_eq_true rfl⟩ (fun v_ Γ_ hp_ => ?_)
      obtain ⟨rfl, f2, rfl, R2⟩ := hp_
      show eZ x E _ [eO a 4 [.ref o.sa, .ref o.pa, .ref o.ha, .ref o.xa, .int o.pn, .int o.ru, .ref o.ta, .int o.ty, .int o.sp, .int o.fr, .int o.re, .int o.ca, .int o.os, .int o.od, .ref o.na], eIA E o.sa 311 f2, eIA E o.xa 311 (mC g f 311), rs] 38 [some (.ref a), some (.int n), some (.int w), none, none, none] [.int ((gTicks (nN n) (0, A)).1)] 0 0
      obtain ⟨rr, M, hT⟩ : ∃ rr M, gTicks (nN n) (0, A) = (rr, M) := ⟨_, _, rfl⟩
      rw [hT] at R2 ⊢
      show eZ x E _ [eO a 4 [.ref o.sa, .ref o.pa, .ref o.ha, .ref o.xa, .int o.pn, .int o.ru, .ref o.ta, .int o.ty, .int o.sp, .int o.fr, .int o.re, .int o.ca, .int o.os, .int o.od, .ref o.na], eIA E o.sa 311 f2, eIA E o.xa 311 (mC g f 311), rs] 38 [some (.ref a), some (.int n), some (.int w), none, none, none] [.int rr] 0 0
      refine z_istore_n (L2 := [some (.ref a), some (.int n), some (.int w), some (.int rr), none, none]) C dX4_ifRun_38 rfl (Nat.le_of_ble_eq_true rfl) rfl ?_
      refine z_aload_n C dX4_ifRun_39 rfl rfl ?_
      refine z_get eK4 0 0 C dX4_ifRun_40 rfl rfl q1671 (eSame1 rfl) (by decide) rfl ?_
      refine z_sipush (v := 299) C dX4_ifRun_43 (by decide) ?_
      refine z_iald (m := 299) (v := M.u.dk) 1 C dX4_ifRun_46 rfl rfl (by omega) (by decide) (R2.2.2.2.1 3 (by decide)) ?_
      refine z_aload_n C dX4_ifRun_47 rfl rfl ?_
      refine z_get eK4 0 3 C dX4_ifRun_48 rfl rfl q1674 (eSame1 rfl) (by decide) rfl ?_
      refine z_sipush (v := 299) C dX4_ifRun_51 (by decide) ?_
      refine z_iald (m := 299) (v := A.u.dk) 2 C dX4_ifRun_54 rfl rfl (by omega) (by decide) ((mC_at (by decide)).trans (R.2.2.2.1 3 (by decide))) ?_
      refine z_isub (w := M.u.dk - A.u.dk) C dX4_ifRun_55 rfl ?_
      refine z_aload_n C dX4_ifRun_56 rfl rfl ?_
      refine z_get eK4 0 0 C dX4_ifRun_57 rfl rfl q1671 (eSame1 rfl) (by decide) rfl ?_
      refine z_sipush (v := 300) C dX4_ifRun_60 (by decide) ?_
      refine z_iald (m := 300) (v := gCks M) 1 C dX4_ifRun_63 rfl rfl (by omega) (by decide) (R2.2.2.2.1 4 (by decide)) ?_
      refine z_iadd (w := (M.u.dk - A.u.dk) + (gCks M)) C dX4_ifRun_64 rfl ?_
      refine z_aload_n C dX4_ifRun_65 rfl rfl ?_
      refine z_get eK4 0 3 C dX4_ifRun_66 rfl rfl q1674 (eSame1 rfl) (by decide) rfl ?_
      refine z_sipush (v := 300) C dX4_ifRun_69 (by decide) ?_
      refine z_iald (m := 300) (v := gCks A) 2 C dX4_ifRun_72 rfl rfl (by omega) (by decide) ((mC_at (by decide)).trans (R.2.2.2.1 4 (by decide))) ?_
      refine z_isub (w := ((M.u.dk - A.u.dk) + (gCks M)) - (gCks A)) C dX4_ifRun_73 rfl ?_
      refine z_istore (L2 := [some (.ref a), some (.int n), some (.int w), some (.int rr), some (.int (((M.u.dk - A.u.dk) + (gCks M)) - (gCks A))), none]) C dX4_ifRun_74 (Nat.le_of_ble_eq_true rfl) rfl ?_
      have hR : gIfRunQ A n w = gIfV A M rr w := by rw [gIfRunQ, if_pos hif, hT]
      refine z_iload_n C dX4_ifRun_76 rfl rfl ?_
      refine z_if_ne 84 C dX4_ifRun_77 (by decide) (fun g0 => ?_) (fun g0 => ?_)
      · refine z_iload_n C dX4_ifRun_84 rfl rfl ?_
        refine z_iconst (v := 1) C dX4_ifRun_85 (by decide) ?_
        refine z_icmp_ne 109 C dX4_ifRun_86 (by decide) (fun g1 => ?_) (fun g1 => ?_)
        · refine z_iload_n C dX4_ifRun_109 rfl rfl ?_
          refine z_iconst (v := 2) C dX4_ifRun_110 (by decide) ?_
          refine z_icmp_ne 119 C dX4_ifRun_111 (by decide) (fun g2 => ?_) (fun g2 => ?_)
          · refine z_aload_n C dX4_ifRun_119 rfl rfl ?_
            refine z_get eK4 0 0 C dX4_ifRun_120 rfl rfl q1671 (eSame1 rfl) (by decide) rfl ?_
            refine z_sipush (v := 303) C dX4_ifRun_123 (by decide) ?_
            refine z_iald (m := 303) (v := gOfC M 8) 1 C dX4_ifRun_126 rfl rfl (by omega) (by decide) (R2.2.2.2.1 7 (by decide)) ?_
            refine z_aload_n C dX4_ifRun_127 rfl rfl ?_
            refine z_get eK4 0 3 C dX4_ifRun_128 rfl rfl q1674 (eSame1 rfl) (by decide) rfl ?_
            refine z_sipush (v := 303) C dX4_ifRun_131 (by decide) ?_
            refine z_iald (m := 303) (v := gOfC A 8) 2 C dX4_ifRun_134 rfl rfl (by omega) (by decide) ((mC_at (by decide)).trans (R.2.2.2.1 7 (by decide))) ?_
            refine z_isub (w := (gOfC M 8) - (gOfC A 8)) C dX4_ifRun_135 rfl ?_
            refine z_istore (L2 := [some (.ref a), some (.int n), some (.int w), some (.int rr), some (.int (((M.u.dk - A.u.dk) + (gCks M)) - (gCks A))), some (.int ((gOfC M 8) - (gOfC A 8)))]) C dX4_ifRun_136 (Nat.le_of_ble_eq_true rfl) rfl ?_
            refine z_aload_n C dX4_ifRun_138 rfl rfl ?_
            refine z_get eK4 0 3 C dX4_ifRun_139 rfl rfl q1674 (eSame1 rfl) (by decide) rfl ?_
            refine z_aload_n C dX4_ifRun_142 rfl rfl ?_
            refine z_get eK4 0 0 C dX4_ifRun_143 rfl rfl q1671 (eSame1 rfl) (by decide) rfl ?_
            refine z_callS (As := [.ref o.xa, .ref o.sa]) (rest := []) (Δ := [eO a 4 [.ref o.sa, .ref o.pa, .ref o.ha, .ref o.xa, .int o.pn, .int o.ru, .ref o.ta, .int o.ty, .int o.sp, .int o.fr, .int o.re, .int o.ca, .int o.os, .int o.od, .ref o.na], rs]) [2, 1] [0, 3] 2 (m_Mcopies hl E o.xa o.sa (mC g f 311) f2) C dX4_ifRun_146 rfl rfl rfl q1866 q1867 q67 q1868 (by decide +kernel) rfl (ePm 4 rfl (by decide +kernel)) rfl rfl ⟨Nat.le_of_ble_eq_true rfl, Nat.le_of_ble_eq_true rfl⟩ (Nat.le_trans eS0 (Nat.le_of_ble_eq_true rfl)) ⟨Nat.le_of_ble_eq_true rfl, Nat.le_of_ble_eq_true rfl⟩ (fun v_ Γ_ hp_ => ?_)
            obtain ⟨rfl, rfl⟩ := hp_
            show eZ x E _ [eIA E o.xa 311 (mC g f 311), eIA E o.sa 311 (mC f2 (mC g f 311) 311), eO a 4 [.ref o.sa, .ref o.pa, .ref o.ha, .ref o.xa, .int o.pn, .int o.ru, .ref o.ta, .int o.ty, .int o.sp, .int o.fr, .int o.re, .int o.ca, .int o.os, .int o.od, .ref o.na], rs] 149 [some (.ref a), some (.int n), some (.int w), some (.int rr), some (.int (((M.u.dk - A.u.dk) + (gCks M)) - (gCks A))), some (.int ((gOfC M 8) - (gOfC A 8)))] [] 0 0
            refine z_iload C dX4_ifRun_149 rfl ?_
            refine z_pick (Γ' := [eO a 4 [.ref o.sa, .ref o.pa, .ref o.ha, .ref o.xa, .int o.pn, .int o.ru, .ref o.ta, .int o.ty, .int o.sp, .int o.fr, .int o.re, .int o.ca, .int o.os, .int o.od, .ref o.na], eIA E o.sa 311 (mC f2 (mC g f 311) 311), eIA E o.xa 311 (mC g f 311), rs]) [2, 1, 0, 3] (ePm 4 rfl (by decide +kernel)) rfl ?_
            subst hQ_
            exact z_ret (Γ := [eO a 4 [.ref o.sa, .ref o.pa, .ref o.ha, .ref o.xa, .int o.pn, .int o.ru, .ref o.ta, .int o.ty, .int o.sp, .int o.fr, .int o.re, .int o.ca, .int o.os, .int o.od, .ref o.na], eIA E o.sa 311 (mC f2 (mC g f 311) 311), eIA E o.xa 311 (mC g f 311)]) C dX4_ifRun_151 rfl rfl (Nat.le_of_ble_eq_true rfl) (Nat.le_of_ble_eq_true rfl) ⟨mC f2 (mC g f 311) 311, mC g f 311, by rw [hR, gIfV, if_neg g0, if_neg g1, if_neg g2], rfl, Rep_fr hok (fun k hk => (mC_at hk).trans (mC_at hk)) R⟩
          · refine z_iload C dX4_ifRun_114 rfl ?_
            refine z_goto 136 C dX4_ifRun_116 (by decide) ?_
            refine z_istore (L2 := [some (.ref a), some (.int n), some (.int w), some (.int rr), some (.int (((M.u.dk - A.u.dk) + (gCks M)) - (gCks A))), some (.int (((M.u.dk - A.u.dk) + (gCks M)) - (gCks A)))]) C dX4_ifRun_136 (Nat.le_of_ble_eq_true rfl) rfl ?_
            refine z_aload_n C dX4_ifRun_138 rfl rfl ?_
            refine z_get eK4 0 3 C dX4_ifRun_139 rfl rfl q1674 (eSame1 rfl) (by decide) rfl ?_
            refine z_aload_n C dX4_ifRun_142 rfl rfl ?_
            refine z_get eK4 0 0 C dX4_ifRun_143 rfl rfl q1671 (eSame1 rfl) (by decide) rfl ?_
            refine z_callS (As := [.ref o.xa, .ref o.sa]) (rest := []) (Δ := [eO a 4 [.ref o.sa, .ref o.pa, .ref o.ha, .ref o.xa, .int o.pn, .int o.ru, .ref o.ta, .int o.ty, .int o.sp, .int o.fr, .int o.re, .int o.ca, .int o.os, .int o.od, .ref o.na], rs]) [2, 1] [0, 3] 2 (m_Mcopies hl E o.xa o.sa (mC g f 311) f2) C dX4_ifRun_146 rfl rfl rfl q1866 q1867 q67 q1868 (by decide +kernel) rfl (ePm 4 rfl (by decide +kernel)) rfl rfl ⟨Nat.le_of_ble_eq_true rfl, Nat.le_of_ble_eq_true rfl⟩ (Nat.le_trans eS0 (Nat.le_of_ble_eq_true rfl)) ⟨Nat.le_of_ble_eq_true rfl, Nat.le_of_ble_eq_true rfl⟩ (fun v_ Γ_ hp_ => ?_)
            obtain ⟨rfl, rfl⟩ := hp_
            show eZ x E _ [eIA E o.xa 311 (mC g f 311), eIA E o.sa 311 (mC f2 (mC g f 311) 311), eO a 4 [.ref o.sa, .ref o.pa, .ref o.ha, .ref o.xa, .int o.pn, .int o.ru, .ref o.ta, .int o.ty, .int o.sp, .int o.fr, .int o.re, .int o.ca, .int o.os, .int o.od, .ref o.na], rs] 149 [some (.ref a), some (.int n), some (.int w), some (.int rr), some (.int (((M.u.dk - A.u.dk) + (gCks M)) - (gCks A))), some (.int (((M.u.dk - A.u.dk) + (gCks M)) - (gCks A)))] [] 0 0
            refine z_iload C dX4_ifRun_149 rfl ?_
            refine z_pick (Γ' := [eO a 4 [.ref o.sa, .ref o.pa, .ref o.ha, .ref o.xa, .int o.pn, .int o.ru, .ref o.ta, .int o.ty, .int o.sp, .int o.fr, .int o.re, .int o.ca, .int o.os, .int o.od, .ref o.na], eIA E o.sa 311 (mC f2 (mC g f 311) 311), eIA E o.xa 311 (mC g f 311), rs]) [2, 1, 0, 3] (ePm 4 rfl (by decide +kernel)) rfl ?_
            subst hQ_
            exact z_ret (Γ := [eO a 4 [.ref o.sa, .ref o.pa, .ref o.ha, .ref o.xa, .int o.pn, .int o.ru, .ref o.ta, .int o.ty, .int o.sp, .int o.fr, .int o.re, .int o.ca, .int o.os, .int o.od, .ref o.na], eIA E o.sa 311 (mC f2 (mC g f 311) 311), eIA E o.xa 311 (mC g f 311)]) C dX4_ifRun_151 rfl rfl (Nat.le_of_ble_eq_true rfl) (Nat.le_of_ble_eq_true rfl) ⟨mC f2 (mC g f 311) 311, mC g f 311, by rw [hR, gIfV, if_neg g0, if_neg g1, if_pos g2, i32_ring], rfl, Rep_fr hok (fun k hk => (mC_at hk).trans (mC_at hk)) R⟩
        · refine z_aload_n C dX4_ifRun_89 rfl rfl ?_
          refine z_get eK4 0 0 C dX4_ifRun_90 rfl rfl q1671 (eSame1 rfl) (by decide) rfl ?_
          refine z_sipush (v := 301) C dX4_ifRun_93 (by decide) ?_
          refine z_iald (m := 301) (v := M.u.co) 1 C dX4_ifRun_96 rfl rfl (by omega) (by decide) (R2.2.2.2.1 5 (by decide)) ?_
          refine z_aload_n C dX4_ifRun_97 rfl rfl ?_
          refine z_get eK4 0 3 C dX4_ifRun_98 rfl rfl q1674 (eSame1 rfl) (by decide) rfl ?_
          refine z_sipush (v := 301) C dX4_ifRun_101 (by decide) ?_
          refine z_iald (m := 301) (v := A.u.co) 2 C dX4_ifRun_104 rfl rfl (by omega) (by decide) ((mC_at (by decide)).trans (R.2.2.2.1 5 (by decide))) ?_
          refine z_isub (w := M.u.co - A.u.co) C dX4_ifRun_105 rfl ?_
          refine z_goto 136 C dX4_ifRun_106 (by decide) ?_
          refine z_istore (L2 := [some (.ref a), some (.int n), some (.int w), some (.int rr), some (.int (((M.u.dk - A.u.dk) + (gCks M)) - (gCks A))), some (.int (M.u.co - A.u.co))]) C dX4_ifRun_136 (Nat.le_of_ble_eq_true rfl) rfl ?_
          refine z_aload_n C dX4_ifRun_138 rfl rfl ?_
          refine z_get eK4 0 3 C dX4_ifRun_139 rfl rfl q1674 (eSame1 rfl) (by decide) rfl ?_
          refine z_aload_n C dX4_ifRun_142 rfl rfl ?_
          refine z_get eK4 0 0 C dX4_ifRun_143 rfl rfl q1671 (eSame1 rfl) (by decide) rfl ?_
          refine z_callS (As := [.ref o.xa, .ref o.sa]) (rest := []) (Δ := [eO a 4 [.ref o.sa, .ref o.pa, .ref o.ha, .ref o.xa, .int o.pn, .int o.ru, .ref o.ta, .int o.ty, .int o.sp, .int o.fr, .int o.re, .int o.ca, .int o.os, .int o.od, .ref o.na], rs]) [2, 1] [0, 3] 2 (m_Mcopies hl E o.xa o.sa (mC g f 311) f2) C dX4_ifRun_146 rfl rfl rfl q1866 q1867 q67 q1868 (by decide +kernel) rfl (ePm 4 rfl (by decide +kernel)) rfl rfl ⟨Nat.le_of_ble_eq_true rfl, Nat.le_of_ble_eq_true rfl⟩ (Nat.le_trans eS0 (Nat.le_of_ble_eq_true rfl)) ⟨Nat.le_of_ble_eq_true rfl, Nat.le_of_ble_eq_true rfl⟩ (fun v_ Γ_ hp_ => ?_)
          obtain ⟨rfl, rfl⟩ := hp_
          show eZ x E _ [eIA E o.xa 311 (mC g f 311), eIA E o.sa 311 (mC f2 (mC g f 311) 311), eO a 4 [.ref o.sa, .ref o.pa, .ref o.ha, .ref o.xa, .int o.pn, .int o.ru, .ref o.ta, .int o.ty, .int o.sp, .int o.fr, .int o.re, .int o.ca, .int o.os, .int o.od, .ref o.na], rs] 149 [some (.ref a), some (.int n), some (.int w), some (.int rr), some (.int (((M.u.dk - A.u.dk) + (gCks M)) - (gCks A))), some (.int (M.u.co - A.u.co))] [] 0 0
          refine z_iload C dX4_ifRun_149 rfl ?_
          refine z_pick (Γ' := [eO a 4 [.ref o.sa, .ref o.pa, .ref o.ha, .ref o.xa, .int o.pn, .int o.ru, .ref o.ta, .int o.ty, .int o.sp, .int o.fr, .int o.re, .int o.ca, .int o.os, .int o.od, .ref o.na], eIA E o.sa 311 (mC f2 (mC g f 311) 311), eIA E o.xa 311 (mC g f 311), rs]) [2, 1, 0, 3] (ePm 4 rfl (by decide +kernel)) rfl ?_
          subst hQ_
          exact z_ret (Γ := [eO a 4 [.ref o.sa, .ref o.pa, .ref o.ha, .ref o.xa, .int o.pn, .int o.ru, .ref o.ta, .int o.ty, .int o.sp, .int o.fr, .int o.re, .int o.ca, .int o.os, .int o.od, .ref o.na], eIA E o.sa 311 (mC f2 (mC g f 311) 311), eIA E o.xa 311 (mC g f 311)]) C dX4_ifRun_151 rfl rfl (Nat.le_of_ble_eq_true rfl) (Nat.le_of_ble_eq_true rfl) ⟨mC f2 (mC g f 311) 311, mC g f 311, by rw [hR, gIfV, if_neg g0, if_pos g1], rfl, Rep_fr hok (fun k hk => (mC_at hk).trans (mC_at hk)) R⟩
      · refine z_iload_n C dX4_ifRun_80 rfl rfl ?_
        refine z_goto 136 C dX4_ifRun_81 (by decide) ?_
        refine z_istore (L2 := [some (.ref a), some (.int n), some (.int w), some (.int rr), some (.int (((M.u.dk - A.u.dk) + (gCks M)) - (gCks A))), some (.int rr)]) C dX4_ifRun_136 (Nat.le_of_ble_eq_true rfl) rfl ?_
        refine z_aload_n C dX4_ifRun_138 rfl rfl ?_
        refine z_get eK4 0 3 C dX4_ifRun_139 rfl rfl q1674 (eSame1 rfl) (by decide) rfl ?_
        refine z_aload_n C dX4_ifRun_142 rfl rfl ?_
        refine z_get eK4 0 0 C dX4_ifRun_143 rfl rfl q1671 (eSame1 rfl) (by decide) rfl ?_
        refine z_callS (As := [.ref o.xa, .ref o.sa]) (rest := []) (Δ := [eO a 4 [.ref o.sa, .ref o.pa, .ref o.ha, .ref o.xa, .int o.pn, .int o.ru, .ref o.ta, .int o.ty, .int o.sp, .int o.fr, .int o.re, .int o.ca, .int o.os, .int o.od, .ref o.na], rs]) [2, 1] [0, 3] 2 (m_Mcopies hl E o.xa o.sa (mC g f 311) f2) C dX4_ifRun_146 rfl rfl rfl q1866 q1867 q67 q1868 (by decide +kernel) rfl (ePm 4 rfl (by decide +kernel)) rfl rfl ⟨Nat.le_of_ble_eq_true rfl, Nat.le_of_ble_eq_true rfl⟩ (Nat.le_trans eS0 (Nat.le_of_ble_eq_true rfl)) ⟨Nat.le_of_ble_eq_true rfl, Nat.le_of_ble_eq_true rfl⟩ (fun v_ Γ_ hp_ => ?_)
        obtain ⟨rfl, rfl⟩ := hp_
        show eZ x E _ [eIA E o.xa 311 (mC g f 311), eIA E o.sa 311 (mC f2 (mC g f 311) 311), eO a 4 [.ref o.sa, .ref o.pa, .ref o.ha, .ref o.xa, .int o.pn, .int o.ru, .ref o.ta, .int o.ty, .int o.sp, .int o.fr, .int o.re, .int o.ca, .int o.os, .int o.od, .ref o.na], rs] 149 [some (.ref a), some (.int n), some (.int w), some (.int rr), some (.int (((M.u.dk - A.u.dk) + (gCks M)) - (gCks A))), some (.int rr)] [] 0 0
        refine z_iload C dX4_ifRun_149 rfl ?_
        refine z_pick (Γ' := [eO a 4 [.ref o.sa, .ref o.pa, .ref o.ha, .ref o.xa, .int o.pn, .int o.ru, .ref o.ta, .int o.ty, .int o.sp, .int o.fr, .int o.re, .int o.ca, .int o.os, .int o.od, .ref o.na], eIA E o.sa 311 (mC f2 (mC g f 311) 311), eIA E o.xa 311 (mC g f 311), rs]) [2, 1, 0, 3] (ePm 4 rfl (by decide +kernel)) rfl ?_
        subst hQ_
        exact z_ret (Γ := [eO a 4 [.ref o.sa, .ref o.pa, .ref o.ha, .ref o.xa, .int o.pn, .int o.ru, .ref o.ta, .int o.ty, .int o.sp, .int o.fr, .int o.re, .int o.ca, .int o.os, .int o.od, .ref o.na], eIA E o.sa 311 (mC f2 (mC g f 311) 311), eIA E o.xa 311 (mC g f 311)]) C dX4_ifRun_151 rfl rfl (Nat.le_of_ble_eq_true rfl) (Nat.le_of_ble_eq_true rfl) ⟨mC f2 (mC g f 311) 311, mC g f 311, by rw [hR, gIfV, if_pos g0], rfl, Rep_fr hok (fun k hk => (mC_at hk).trans (mC_at hk)) R⟩
    · refine z_ldc C dX4_ifRun_19 rfl q1727 ?_
      subst hQ_
      exact z_ret (Γ := [eO a 4 [.ref o.sa, .ref o.pa, .ref o.ha, .ref o.xa, .int o.pn, .int o.ru, .ref o.ta, .int o.ty, .int o.sp, .int o.fr, .int o.re, .int o.ca, .int o.os, .int o.od, .ref o.na], eIA E o.sa 311 f, eIA E o.xa 311 g]) C dX4_ifRun_21 rfl rfl (Nat.le_of_ble_eq_true rfl) (Nat.le_of_ble_eq_true rfl) ⟨f, g, by rw [gIfRunQ, h1, h2]; rfl, rfl, R⟩

set_option maxHeartbeats 4000000 in
theorem m_Mundo {l : Launch} (hl : l.stackTraces = false) (E : eEn) (a : Nat) (o : Mo) (f : Nat → Int32) (A : Am) (R : Rep f A) (h : Nat → Int32) (hs : List Am) (hH : rH h o.pn hs) (hoks : ∀ B ∈ hs, gOk B) (tx : List Nat) : eMet l E yX4_undo (ws_ yX4_undo cX4_undo 2 (some .int)) ({ frames := 0, cells := 0, slots := 0, locals := 0 }) [.ref a] [eO a 4 [.ref o.sa, .ref o.pa, .ref o.ha, .ref o.xa, .int o.pn, .int o.ru, .ref o.ta, .int o.ty, .int o.sp, .int o.fr, .int o.re, .int o.ca, .int o.os, .int o.od, .ref o.na], eIA E o.sa 311 f, eIA E o.pa 1244 h] (fun w Γ => ∃ f2 pn2, w = some (.int (gUndo (A, hs, tx)).1) ∧ Γ = [eMO a (o.pnS pn2), eIA E o.sa 311 f2, eIA E o.pa 1244 h] ∧ Rep f2 (gUndo (A, hs, tx)).2.m ∧ rH h pn2 (gUndo (A, hs, tx)).2.hs) := by
  refine eStart (cc := cX4_undo) (nL := 2) (L := [some (.ref a), none]) hl (by decide) rfl (List.forall_mem_cons.mpr ⟨rfl, (fun _ h => absurd h List.not_mem_nil)⟩) (Nat.le_of_ble_eq_true rfl) ?_
  intro x rs C
  show eZ x E (eQ x E (fun w Γ => ∃ f2 pn2, w = some (.int (gUndo (A, hs, tx)).1) ∧ Γ = [eMO a (o.pnS pn2), eIA E o.sa 311 f2, eIA E o.pa 1244 h] ∧ Rep f2 (gUndo (A, hs, tx)).2.m ∧ rH h pn2 (gUndo (A, hs, tx)).2.hs) rs) [eO a 4 [.ref o.sa, .ref o.pa, .ref o.ha, .ref o.xa, .int o.pn, .int o.ru, .ref o.ta, .int o.ty, .int o.sp, .int o.fr, .int o.re, .int o.ca, .int o.os, .int o.od, .ref o.na], eIA E o.sa 311 f, eIA E o.pa 1244 h, rs] 0 [some (.ref a), none] [] 0 0
  generalize hQ_ : eQ x E (fun w Γ => ∃ f2 pn2, w = some (.int (gUndo (A, hs, tx)).1) ∧ Γ = [eMO a (o.pnS pn2), eIA E o.sa 311 f2, eIA E o.pa 1244 h] ∧ Rep f2 (gUndo (A, hs, tx)).2.m ∧ rH h pn2 (gUndo (A, hs, tx)).2.hs) rs = Q_
  have h4 := hH.2.1
  refine z_go (Γ' := [eO a 4 [.ref o.sa, .ref o.pa, .ref o.ha, .ref o.xa, .int (nI hs.length), .int o.ru, .ref o.ta, .int o.ty, .int o.sp, .int o.fr, .int o.re, .int o.ca, .int o.os, .int o.od, .ref o.na], eIA E o.sa 311 f, eIA E o.pa 1244 h, rs]) (by rw [hH.1]) ?_
  show eZ x E _ [eO a 4 [.ref o.sa, .ref o.pa, .ref o.ha, .ref o.xa, .int (nI hs.length), .int o.ru, .ref o.ta, .int o.ty, .int o.sp, .int o.fr, .int o.re, .int o.ca, .int o.os, .int o.od, .ref o.na], eIA E o.sa 311 f, eIA E o.pa 1244 h, rs] 0 [some (.ref a), none] [] 0 0
  refine z_aload_n C dX4_undo_0 rfl rfl ?_
  refine z_get eK4 0 4 C dX4_undo_1 rfl rfl q1675 (eSame1 rfl) (by decide) rfl ?_
  refine z_if_ne 10 C dX4_undo_4 (by decide) (fun h1 => ?_) (fun h1 => ?_)
  · obtain ⟨ys, m2, rfl⟩ : ∃ ys z, hs = ys ++ [z] := by
      rcases List.eq_nil_or_concat hs with h | ⟨ys, z, h⟩
      · rw [h] at h1; exact absurd rfl h1
      · exact ⟨ys, z, by rw [h, List.concat_eq_append]⟩
    have hlen : (ys ++ [m2]).length = ys.length + 1 := by rw [List.length_append]; rfl
    rw [hlen] at h4
    refine z_go (Γ' := [eO a 4 [.ref o.sa, .ref o.pa, .ref o.ha, .ref o.xa, .int (nI (ys.length + 1)), .int o.ru, .ref o.ta, .int o.ty, .int o.sp, .int o.fr, .int o.re, .int o.ca, .int o.os, .int o.od, .ref o.na], eIA E o.sa 311 f, eIA E o.pa 1244 h, rs]) (by rw [hlen]) ?_
    show eZ x E _ [eO a 4 [.ref o.sa, .ref o.pa, .ref o.ha, .ref o.xa, .int (nI (ys.length + 1)), .int o.ru, .ref o.ta, .int o.ty, .int o.sp, .int o.fr, .int o.re, .int o.ca, .int o.os, .int o.od, .ref o.na], eIA E o.sa 311 f, eIA E o.pa 1244 h, rs] 10 [some (.ref a), none] [] 0 0
    have hm2 := hH.2.2 ys.length m2 (by rw [List.getElem?_append_right (Nat.le_refl _), Nat.sub_self]; rfl)
    refine z_aload_n C dX4_undo_10 rfl rfl ?_
    refine z_dup C dX4_undo_11 rfl ?_
    refine z_get eK4 0 4 C dX4_undo_12 rfl rfl q1675 (eSame1 rfl) (by decide) rfl ?_
    refine z_iconst (v := 1) C dX4_undo_15 (by decide) ?_
    refine z_isub (w := nI ys.length) C dX4_undo_16 (nI_pred _) ?_
    refine z_put eK4 0 4 (Γ2 := [eO a 4 [.ref o.sa, .ref o.pa, .ref o.ha, .ref o.xa, .int (nI ys.length), .int o.ru, .ref o.ta, .int o.ty, .int o.sp, .int o.fr, .int o.re, .int o.ca, .int o.os, .int o.od, .ref o.na], eIA E o.sa 311 f, eIA E o.pa 1244 h, rs]) C dX4_undo_17 rfl rfl q1675 (eSame1 rfl) (by decide) rfl rfl rfl rfl (Nat.le_of_ble_eq_true rfl) rfl ?_
    refine z_iconst (v := 0) C dX4_undo_20 (by decide) ?_
    refine z_istore_n (L2 := [some (.ref a), some (.int 0)]) C dX4_undo_21 rfl (Nat.le_of_ble_eq_true rfl) rfl ?_
    have hokm : gOk m2 := hoks m2 (by simp)
    have K : ∀ (d i : Nat), i + d = 311 → eZ x E Q_ [eO a 4 [.ref o.sa, .ref o.pa, .ref o.ha, .ref o.xa, .int (nI ys.length), .int o.ru, .ref o.ta, .int o.ty, .int o.sp, .int o.fr, .int o.re, .int o.ca, .int o.os, .int o.od, .ref o.na], eIA E o.sa 311 (mC f (fun k => h (311 * ys.length + k)) i), eIA E o.pa 1244 h, rs] 22 [some (.ref a), some (.int (nI i))] [] 0 0 := by
      intro d
      induction d with
      | zero =>
          intro i hi
          obtain rfl : i = 311 := by omega
          refine z_iload_n C dX4_undo_22 rfl rfl ?_
          refine z_sipush (v := 311) C dX4_undo_23 (by decide) ?_
          refine z_icmp_ge 56 C dX4_undo_26 (by decide) (fun h_ => ?_) (fun h_ => absurd h_ (absurd (by decide) h_))
          refine z_aload_n C dX4_undo_56 rfl rfl ?_
          refine z_get eK4 0 4 C dX4_undo_57 rfl rfl q1675 (eSame1 rfl) (by decide) rfl ?_
          have hU : gUndo (A, ys ++ [m2], tx) = (nI ys.length, (m2, ys, tx)) := by rw [gUndo]; show (match (ys ++ [m2]).getLast? with | none => ((-1000002, (A, ys ++ [m2], tx)) : Int32 × As) | some m => (nI ((ys ++ [m2]).length - 1), (m, (ys ++ [m2]).dropLast, tx))) = _; simp
          subst hQ_
          exact z_ret (Γ := [eO a 4 [.ref o.sa, .ref o.pa, .ref o.ha, .ref o.xa, .int (nI ys.length), .int o.ru, .ref o.ta, .int o.ty, .int o.sp, .int o.fr, .int o.re, .int o.ca, .int o.os, .int o.od, .ref o.na], eIA E o.sa 311 (mC f (fun k => h (311 * ys.length + k)) 311), eIA E o.pa 1244 h]) C dX4_undo_60 rfl rfl (Nat.le_of_ble_eq_true rfl) (Nat.le_of_ble_eq_true rfl) ⟨mC f (fun k => h (311 * ys.length + k)) 311, nI ys.length, by rw [hU], rfl, by rw [hU]; exact Rep_fr hokm (fun k hk => mC_at hk) hm2, by rw [hU]; exact ⟨rfl, by show ys.length ≤ 4; omega, fun i B hB => hH.2.2 i B (by rw [List.getElem?_append_left (List.getElem?_eq_some_iff.mp hB).1]; exact hB)⟩⟩
      | succ d ih =>
          intro i hi
          refine z_iload_n C dX4_undo_22 rfl rfl ?_
          refine z_sipush (v := 311) C dX4_undo_23 (by decide) ?_
          refine z_icmp_ge 56 C dX4_undo_26 (by decide) (fun h_ => absurd h_ (nI_ge (a := i) (b := 311) (by omega) (by decide))) (fun h_ => ?_)
          refine z_aload_n C dX4_undo_29 rfl rfl ?_
          refine z_get eK4 0 0 C dX4_undo_30 rfl rfl q1671 (eSame1 rfl) (by decide) rfl ?_
          refine z_iload_n C dX4_undo_33 rfl rfl ?_
          refine z_aload_n C dX4_undo_34 rfl rfl ?_
          refine z_get eK4 0 1 C dX4_undo_35 rfl rfl q1672 (eSame1 rfl) (by decide) rfl ?_
          refine z_sipush (v := 311) C dX4_undo_38 (by decide) ?_
          refine z_aload_n C dX4_undo_41 rfl rfl ?_
          refine z_get eK4 0 4 C dX4_undo_42 rfl rfl q1675 (eSame1 rfl) (by decide) rfl ?_
          refine z_imul (w := nI (311 * ys.length)) C dX4_undo_45 (nI_mul_ 311 ys.length) ?_
          refine z_iload_n C dX4_undo_46 rfl rfl ?_
          refine z_iadd (w := nI (311 * ys.length + i)) C dX4_undo_47 (nI_add (311 * ys.length) i) ?_
          refine z_iald (m := (311 * ys.length + i)) (v := h (311 * ys.length + i)) 2 C dX4_undo_48 rfl rfl (by omega) (by decide) rfl ?_
          refine z_iast (m := i) (Γ2 := [eO a 4 [.ref o.sa, .ref o.pa, .ref o.ha, .ref o.xa, .int (nI ys.length), .int o.ru, .ref o.ta, .int o.ty, .int o.sp, .int o.fr, .int o.re, .int o.ca, .int o.os, .int o.od, .ref o.na], eIA E o.sa 311 (mC f (fun k => h (311 * ys.length + k)) (i + 1)), eIA E o.pa 1244 h, rs]) 1 C dX4_undo_49 rfl rfl (by omega) (by decide) (by rw [mC_s]; rfl) ?_
          refine z_iinc (v := nI (i + 1)) (L2 := [some (.ref a), some (.int (nI (i + 1)))]) C dX4_undo_50 rfl (nI_1 i) rfl ?_
          refine z_goto 22 C dX4_undo_53 (by decide) ?_
          exact ih (i + 1) (by omega)
    refine z_go (Γ' := [eO a 4 [.ref o.sa, .ref o.pa, .ref o.ha, .ref o.xa, .int (nI ys.length), .int o.ru, .ref o.ta, .int o.ty, .int o.sp, .int o.fr, .int o.re, .int o.ca, .int o.os, .int o.od, .ref o.na], eIA E o.sa 311 (mC f (fun k => h (311 * ys.length + k)) 0), eIA E o.pa 1244 h, rs]) (by rw [mC_0]) ?_
    exact K 311 0 rfl
  · have hn0 : hs = [] := by cases hs with | nil => rfl | cons g t => exact absurd h1 (nI_ne0 (by rw [List.length_cons]; omega) (by omega))
    refine z_ldc C dX4_undo_7 rfl q1744 ?_
    subst hQ_
    exact z_ret (Γ := [eO a 4 [.ref o.sa, .ref o.pa, .ref o.ha, .ref o.xa, .int (nI hs.length), .int o.ru, .ref o.ta, .int o.ty, .int o.sp, .int o.fr, .int o.re, .int o.ca, .int o.os, .int o.od, .ref o.na], eIA E o.sa 311 f, eIA E o.pa 1244 h]) C dX4_undo_9 rfl rfl (Nat.le_of_ble_eq_true rfl) (Nat.le_of_ble_eq_true rfl) ⟨f, nI hs.length, by rw [gUndo, hn0]; rfl, rfl, by rw [gUndo, hn0]; exact R, by rw [hn0] at hH ⊢; exact ⟨rfl, hH.2⟩⟩

abbrev Mo.tyS (o : Mo) (ty : Int32) : Mo := (o.sa, o.pa, o.ha, o.xa, o.pn, o.ru, o.ta, ty, o.sp, o.fr, o.re, o.ca, o.os, o.od, o.na)

theorem tR_app {tf : Nat → Int32} {tx : List Nat} {ch : Int32} (h0 : 0 ≤ ch) (h : ∀ i c, tx[i]? = some c → tf i = nI c) {i c : Nat} (hc : (tx ++ [nN ch])[i]? = some c) : upd tf tx.length ch i = nI c := by
  have hi : i < (tx ++ [nN ch]).length := (List.getElem?_eq_some_iff.mp hc).1
  rw [List.length_append] at hi
  have hi2 : i < tx.length + 1 := hi
  rcases Nat.lt_or_ge i tx.length with hlt | hge
  · rw [List.getElem?_append_left hlt] at hc
    rw [upd_ne_ (by omega)]; exact h i c hc
  · obtain rfl : i = tx.length := by omega
    rw [List.getElem?_append_right (Nat.le_refl _), Nat.sub_self] at hc
    cases hc
    rw [upd_self_]; exact nI_nN h0

set_option maxHeartbeats 4000000 in
theorem m_Mtype {l : Launch} (hl : l.stackTraces = false) (E : eEn) (a : Nat) (o : Mo) (A : Am) (hs : List Am) (tx : List Nat) (tf : Nat → Int32) (hT : tR tf o.ty tx) (ch : Int32) : eMet l E yX4_type (ws_ yX4_type cX4_type 2 (some .int)) ({ frames := 1, cells := 0, slots := 0, locals := 22 }) [.ref a, .int ch] [eO a 4 [.ref o.sa, .ref o.pa, .ref o.ha, .ref o.xa, .int o.pn, .int o.ru, .ref o.ta, .int o.ty, .int o.sp, .int o.fr, .int o.re, .int o.ca, .int o.os, .int o.od, .ref o.na], eIA E o.ta 60 tf] (fun w Γ => ∃ tf2 ty2, w = some (.int (gType (A, hs, tx) ch).1) ∧ Γ = [eMO a (o.tyS ty2), eIA E o.ta 60 tf2] ∧ tR tf2 ty2 (gType (A, hs, tx) ch).2.tx) := by
  refine eStart (cc := cX4_type) (nL := 2) (L := [some (.ref a), some (.int ch)]) hl (by decide) rfl (List.forall_mem_cons.mpr ⟨rfl, (List.forall_mem_cons.mpr ⟨rfl, (fun _ h => absurd h List.not_mem_nil)⟩)⟩) (Nat.le_of_ble_eq_true rfl) ?_
  intro x rs C
  show eZ x E (eQ x E (fun w Γ => ∃ tf2 ty2, w = some (.int (gType (A, hs, tx) ch).1) ∧ Γ = [eMO a (o.tyS ty2), eIA E o.ta 60 tf2] ∧ tR tf2 ty2 (gType (A, hs, tx) ch).2.tx) rs) [eO a 4 [.ref o.sa, .ref o.pa, .ref o.ha, .ref o.xa, .int o.pn, .int o.ru, .ref o.ta, .int o.ty, .int o.sp, .int o.fr, .int o.re, .int o.ca, .int o.os, .int o.od, .ref o.na], eIA E o.ta 60 tf, rs] 0 [some (.ref a), some (.int ch)] [] 0 0
  generalize hQ_ : eQ x E (fun w Γ => ∃ tf2 ty2, w = some (.int (gType (A, hs, tx) ch).1) ∧ Γ = [eMO a (o.tyS ty2), eIA E o.ta 60 tf2] ∧ tR tf2 ty2 (gType (A, hs, tx) ch).2.tx) rs = Q_
  refine z_iload_n C dX4_type_0 rfl rfl ?_
  refine z_bipush (v := 32) C dX4_type_1 (by decide) ?_
  refine z_bipush (v := 126) C dX4_type_3 (by decide) ?_
  refine z_callS (As := [.int ch, .int 32, .int 126]) (rest := []) (Δ := [eO a 4 [.ref o.sa, .ref o.pa, .ref o.ha, .ref o.xa, .int o.pn, .int o.ru, .ref o.ta, .int o.ty, .int o.sp, .int o.fr, .int o.re, .int o.ca, .int o.os, .int o.od, .ref o.na], eIA E o.ta 60 tf, rs]) [] [0, 1, 2] 3 (m_Min hl E ch 32 126) C dX4_type_5 rfl rfl rfl q1724 q1725 q67 q1726 (by decide +kernel) rfl (ePm 3 rfl (by decide +kernel)) rfl rfl ⟨Nat.le_of_ble_eq_true rfl, Nat.le_of_ble_eq_true rfl⟩ (Nat.le_trans eS0 (Nat.le_of_ble_eq_true rfl)) ⟨Nat.le_of_ble_eq_true rfl, Nat.le_of_ble_eq_true rfl⟩ (fun v_ Γ_ hp_ => ?_)
  obtain ⟨rfl, rfl⟩ := hp_
  show eZ x E _ [eO a 4 [.ref o.sa, .ref o.pa, .ref o.ha, .ref o.xa, .int o.pn, .int o.ru, .ref o.ta, .int o.ty, .int o.sp, .int o.fr, .int o.re, .int o.ca, .int o.os, .int o.od, .ref o.na], eIA E o.ta 60 tf, rs] 8 [some (.ref a), some (.int ch)] [.int (eB (eBt ch 32 126))] 0 0
  refine z_if_ne_B 14 C dX4_type_8 (by decide) (fun h1 => ?_) (fun h1 => ?_)
  · refine z_go (Γ' := [eO a 4 [.ref o.sa, .ref o.pa, .ref o.ha, .ref o.xa, .int o.pn, .int o.ru, .ref o.ta, .int (nI tx.length), .int o.sp, .int o.fr, .int o.re, .int o.ca, .int o.os, .int o.od, .ref o.na], eIA E o.ta 60 tf, rs]) (by rw [hT.1]) ?_
    show eZ x E _ [eO a 4 [.ref o.sa, .ref o.pa, .ref o.ha, .ref o.xa, .int o.pn, .int o.ru, .ref o.ta, .int (nI tx.length), .int o.sp, .int o.fr, .int o.re, .int o.ca, .int o.os, .int o.od, .ref o.na], eIA E o.ta 60 tf, rs] 14 [some (.ref a), some (.int ch)] [] 0 0
    have ht60 := hT.2.1
    refine z_aload_n C dX4_type_14 rfl rfl ?_
    refine z_get eK4 0 7 C dX4_type_15 rfl rfl q1678 (eSame1 rfl) (by decide) rfl ?_
    refine z_bipush (v := 60) C dX4_type_18 (by decide) ?_
    refine z_icmp_ne 26 C dX4_type_20 (by decide) (fun h2 => ?_) (fun h2 => ?_)
    · have h60 : tx.length ≠ 60 := fun h => h2 (by rw [h]; rfl)
      have hG : gType (A, hs, tx) ch = (nI (tx.length + 1), (A, hs, tx ++ [nN ch])) := by rw [gType, if_pos h1]; exact if_neg h60
      refine z_aload_n C dX4_type_26 rfl rfl ?_
      refine z_get eK4 0 6 C dX4_type_27 rfl rfl q1677 (eSame1 rfl) (by decide) rfl ?_
      refine z_aload_n C dX4_type_30 rfl rfl ?_
      refine z_get eK4 0 7 C dX4_type_31 rfl rfl q1678 (eSame1 rfl) (by decide) rfl ?_
      refine z_iload_n C dX4_type_34 rfl rfl ?_
      refine z_iast (m := tx.length) (Γ2 := [eO a 4 [.ref o.sa, .ref o.pa, .ref o.ha, .ref o.xa, .int o.pn, .int o.ru, .ref o.ta, .int (nI tx.length), .int o.sp, .int o.fr, .int o.re, .int o.ca, .int o.os, .int o.od, .ref o.na], eIA E o.ta 60 (upd tf tx.length ch), rs]) 1 C dX4_type_35 rfl rfl (by omega) (by decide) rfl ?_
      refine z_aload_n C dX4_type_36 rfl rfl ?_
      refine z_dup C dX4_type_37 rfl ?_
      refine z_get eK4 0 7 C dX4_type_38 rfl rfl q1678 (eSame1 rfl) (by decide) rfl ?_
      refine z_iconst (v := 1) C dX4_type_41 (by decide) ?_
      refine z_iadd (w := nI (tx.length + 1)) C dX4_type_42 (nI_add tx.length 1) ?_
      refine z_put eK4 0 7 (Γ2 := [eO a 4 [.ref o.sa, .ref o.pa, .ref o.ha, .ref o.xa, .int o.pn, .int o.ru, .ref o.ta, .int (nI (tx.length + 1)), .int o.sp, .int o.fr, .int o.re, .int o.ca, .int o.os, .int o.od, .ref o.na], eIA E o.ta 60 (upd tf tx.length ch), rs]) C dX4_type_43 rfl rfl q1678 (eSame1 rfl) (by decide) rfl rfl rfl rfl (Nat.le_of_ble_eq_true rfl) rfl ?_
      refine z_aload_n C dX4_type_46 rfl rfl ?_
      refine z_get eK4 0 7 C dX4_type_47 rfl rfl q1678 (eSame1 rfl) (by decide) rfl ?_
      subst hQ_
      exact z_ret (Γ := [eO a 4 [.ref o.sa, .ref o.pa, .ref o.ha, .ref o.xa, .int o.pn, .int o.ru, .ref o.ta, .int (nI (tx.length + 1)), .int o.sp, .int o.fr, .int o.re, .int o.ca, .int o.os, .int o.od, .ref o.na], eIA E o.ta 60 (upd tf tx.length ch)]) C dX4_type_50 rfl rfl (Nat.le_of_ble_eq_true rfl) (Nat.le_of_ble_eq_true rfl) ⟨_, _, by rw [hG], rfl, by rw [hG]; exact ⟨by show _ = nI (tx ++ [nN ch]).length; rw [List.length_append]; try rfl, by show (tx ++ [nN ch]).length ≤ 60; rw [List.length_append]; show tx.length + 1 ≤ 60; omega, fun i c hc => tR_app (Int32.le_trans (by decide) (eBt_0 h1).1) hT.2.2 hc⟩⟩
    · have h60 : tx.length = 60 := (nI_eq (a := tx.length) (b := 60) (by omega) (by decide)).mp h2
      refine z_ldc C dX4_type_23 rfl q1732 ?_
      subst hQ_
      exact z_ret (Γ := [eO a 4 [.ref o.sa, .ref o.pa, .ref o.ha, .ref o.xa, .int o.pn, .int o.ru, .ref o.ta, .int (nI tx.length), .int o.sp, .int o.fr, .int o.re, .int o.ca, .int o.os, .int o.od, .ref o.na], eIA E o.ta 60 tf]) C dX4_type_25 rfl rfl (Nat.le_of_ble_eq_true rfl) (Nat.le_of_ble_eq_true rfl) ⟨tf, _, by rw [gType, if_pos h1]; show _ = some (Value.int (if tx.length = 60 then _ else _ : Int32 × As).1); rw [if_pos h60], rfl, by rw [gType, if_pos h1]; show tR tf _ (if tx.length = 60 then _ else _ : Int32 × As).2.tx; rw [if_pos h60]; exact ⟨rfl, hT.2⟩⟩
  · refine z_ldc C dX4_type_11 rfl q1727 ?_
    subst hQ_
    exact z_ret (Γ := [eO a 4 [.ref o.sa, .ref o.pa, .ref o.ha, .ref o.xa, .int o.pn, .int o.ru, .ref o.ta, .int o.ty, .int o.sp, .int o.fr, .int o.re, .int o.ca, .int o.os, .int o.od, .ref o.na], eIA E o.ta 60 tf]) C dX4_type_13 rfl rfl (Nat.le_of_ble_eq_true rfl) (Nat.le_of_ble_eq_true rfl) ⟨tf, o.ty, by rw [gType, if_neg (by rw [h1]; decide)], rfl, by rw [gType, if_neg (by rw [h1]; decide)]; exact hT⟩

set_option maxHeartbeats 4000000 in
theorem m_Mclear {l : Launch} (hl : l.stackTraces = false) (E : eEn) (a : Nat) (o : Mo) (A : Am) (hs : List Am) (tx : List Nat) (tf : Nat → Int32) (hT : tR tf o.ty tx)  : eMet l E yX4_clearText (ws_ yX4_clearText cX4_clearText 2 (some .int)) ({ frames := 0, cells := 0, slots := 0, locals := 0 }) [.ref a] [eO a 4 [.ref o.sa, .ref o.pa, .ref o.ha, .ref o.xa, .int o.pn, .int o.ru, .ref o.ta, .int o.ty, .int o.sp, .int o.fr, .int o.re, .int o.ca, .int o.os, .int o.od, .ref o.na], eIA E o.ta 60 tf] (fun w Γ => ∃ ty2, w = some (.int (gClear (A, hs, tx)).1) ∧ Γ = [eMO a (o.tyS ty2), eIA E o.ta 60 tf] ∧ tR tf ty2 []) := by
  refine eStart (cc := cX4_clearText) (nL := 2) (L := [some (.ref a), none]) hl (by decide) rfl (List.forall_mem_cons.mpr ⟨rfl, (fun _ h => absurd h List.not_mem_nil)⟩) (Nat.le_of_ble_eq_true rfl) ?_
  intro x rs C
  show eZ x E (eQ x E (fun w Γ => ∃ ty2, w = some (.int (gClear (A, hs, tx)).1) ∧ Γ = [eMO a (o.tyS ty2), eIA E o.ta 60 tf] ∧ tR tf ty2 []) rs) [eO a 4 [.ref o.sa, .ref o.pa, .ref o.ha, .ref o.xa, .int o.pn, .int o.ru, .ref o.ta, .int o.ty, .int o.sp, .int o.fr, .int o.re, .int o.ca, .int o.os, .int o.od, .ref o.na], eIA E o.ta 60 tf, rs] 0 [some (.ref a), none] [] 0 0
  generalize hQ_ : eQ x E (fun w Γ => ∃ ty2, w = some (.int (gClear (A, hs, tx)).1) ∧ Γ = [eMO a (o.tyS ty2), eIA E o.ta 60 tf] ∧ tR tf ty2 []) rs = Q_
  refine z_aload_n C dX4_clearText_0 rfl rfl ?_
  refine z_get eK4 0 7 C dX4_clearText_1 rfl rfl q1678 (eSame1 rfl) (by decide) rfl ?_
  refine z_istore_n (L2 := [some (.ref a), some (.int o.ty)]) C dX4_clearText_4 rfl (Nat.le_of_ble_eq_true rfl) rfl ?_
  refine z_aload_n C dX4_clearText_5 rfl rfl ?_
  refine z_iconst (v := 0) C dX4_clearText_6 (by decide) ?_
  refine z_put eK4 0 7 (Γ2 := [eO a 4 [.ref o.sa, .ref o.pa, .ref o.ha, .ref o.xa, .int o.pn, .int o.ru, .ref o.ta, .int 0, .int o.sp, .int o.fr, .int o.re, .int o.ca, .int o.os, .int o.od, .ref o.na], eIA E o.ta 60 tf, rs]) C dX4_clearText_7 rfl rfl q1678 (eSame1 rfl) (by decide) rfl rfl rfl rfl (Nat.le_of_ble_eq_true rfl) rfl ?_
  refine z_iload_n C dX4_clearText_10 rfl rfl ?_
  subst hQ_
  exact z_ret (Γ := [eO a 4 [.ref o.sa, .ref o.pa, .ref o.ha, .ref o.xa, .int o.pn, .int o.ru, .ref o.ta, .int 0, .int o.sp, .int o.fr, .int o.re, .int o.ca, .int o.os, .int o.od, .ref o.na], eIA E o.ta 60 tf]) C dX4_clearText_11 rfl rfl (Nat.le_of_ble_eq_true rfl) (Nat.le_of_ble_eq_true rfl) ⟨0, by rw [hT.1]; rfl, rfl, rfl, Nat.zero_le _, fun i c h => by cases h⟩

set_option maxHeartbeats 4000000 in
theorem m_Mcount {l : Launch} (hl : l.stackTraces = false) (E : eEn) (a : Nat) (o : Mo) (f : Nat → Int32) (A : Am) (hok : gOk A) (hwf : gWf A) (R : Rep f A) (hs : List Am) (tx : List Nat) (hpn : o.pn = nI hs.length) (hty : o.ty = nI tx.length) (v : Int32) : eMet l E yX4_count (ws_ yX4_count cX4_count 2 (some .int)) ({ frames := 3, cells := 0, slots := 0, locals := 63 }) [.ref a, .int v] [eO a 4 [.ref o.sa, .ref o.pa, .ref o.ha, .ref o.xa, .int o.pn, .int o.ru, .ref o.ta, .int o.ty, .int o.sp, .int o.fr, .int o.re, .int o.ca, .int o.os, .int o.od, .ref o.na], eIA E o.sa 311 f] (fun w_ Γ => w_ = some (.int (gCountQ (A, hs, tx) v)) ∧ Γ = [eMO a o, eIA E o.sa 311 f]) := by
  refine eStart (cc := cX4_count) (nL := 2) (L := [some (.ref a), some (.int v)]) hl (by decide) rfl (List.forall_mem_cons.mpr ⟨rfl, (List.forall_mem_cons.mpr ⟨rfl, (fun _ h => absurd h List.not_mem_nil)⟩)⟩) (Nat.le_of_ble_eq_true rfl) ?_
  intro x rs C
  show eZ x E (eQ x E (fun w_ Γ => w_ = some (.int (gCountQ (A, hs, tx) v)) ∧ Γ = [eMO a o, eIA E o.sa 311 f]) rs) [eO a 4 [.ref o.sa, .ref o.pa, .ref o.ha, .ref o.xa, .int o.pn, .int o.ru, .ref o.ta, .int o.ty, .int o.sp, .int o.fr, .int o.re, .int o.ca, .int o.os, .int o.od, .ref o.na], eIA E o.sa 311 f, rs] 0 [some (.ref a), some (.int v)] [] 0 0
  generalize hQ_ : eQ x E (fun w_ Γ => w_ = some (.int (gCountQ (A, hs, tx) v)) ∧ Γ = [eMO a o, eIA E o.sa 311 f]) rs = Q_
  refine z_iload_n C dX4_count_0 rfl rfl ?_
  by_cases hw : eBt v 0 23 = true
  · obtain ⟨K, hK, rfl⟩ := eBt_N (hw)
    have hK2 : K < 24 := Nat.lt_succ_of_le hK
    have hK3 : K = 0 ∨ K = 1 ∨ K = 2 ∨ K = 3 ∨ K = 4 ∨ K = 5 ∨ K = 6 ∨ K = 7 ∨ K = 8 ∨ K = 9 ∨ K = 10 ∨ K = 11 ∨ K = 12 ∨ K = 13 ∨ K = 14 ∨ K = 15 ∨ K = 16 ∨ K = 17 ∨ K = 18 ∨ K = 19 ∨ K = 20 ∨ K = 21 ∨ K = 22 ∨ K = 23 := by omega
    rcases hK3 with rfl | rfl | rfl | rfl | rfl | rfl | rfl | rfl | rfl | rfl | rfl | rfl | rfl | rfl | rfl | rfl | rfl | rfl | rfl | rfl | rfl | rfl | rfl | rfl
    · show eZ x E _ [eO a 4 [.ref o.sa, .ref o.pa, .ref o.ha, .ref o.xa, .int o.pn, .int o.ru, .ref o.ta, .int o.ty, .int o.sp, .int o.fr, .int o.re, .int o.ca, .int o.os, .int o.od, .ref o.na], eIA E o.sa 311 f, rs] 1 [some (.ref a), some (.int (nI 0))] [.int (nI 0)] 0 0
      refine z_tabIn (off := 111) 112 C dX4_count_1 (by decide) (by decide) (by decide) (by decide) ?_
      refine z_aload_n C dX4_count_112 rfl rfl ?_
      refine z_get eK4 0 0 C dX4_count_113 rfl rfl q1671 (eSame1 rfl) (by decide) rfl ?_
      refine z_sipush (v := 296) C dX4_count_116 (by decide) ?_
      refine z_iload_n C dX4_count_119 rfl rfl ?_
      refine z_iadd (w := nI 296) C dX4_count_120 (nI_add 296 0) ?_
      refine z_iald (m := 296) (v := A.u.tk) 1 C dX4_count_121 rfl rfl (by omega) (by decide) (R.2.2.2.1 0 (by decide)) ?_
      subst hQ_
      exact z_ret (Γ := [eO a 4 [.ref o.sa, .ref o.pa, .ref o.ha, .ref o.xa, .int o.pn, .int o.ru, .ref o.ta, .int o.ty, .int o.sp, .int o.fr, .int o.re, .int o.ca, .int o.os, .int o.od, .ref o.na], eIA E o.sa 311 f]) C dX4_count_122 rfl rfl (Nat.le_of_ble_eq_true rfl) (Nat.le_of_ble_eq_true rfl) ⟨by rw [gCountQ, if_pos (by decide)], rfl⟩
    · show eZ x E _ [eO a 4 [.ref o.sa, .ref o.pa, .ref o.ha, .ref o.xa, .int o.pn, .int o.ru, .ref o.ta, .int o.ty, .int o.sp, .int o.fr, .int o.re, .int o.ca, .int o.os, .int o.od, .ref o.na], eIA E o.sa 311 f, rs] 1 [some (.ref a), some (.int (nI 1))] [.int (nI 1)] 0 0
      refine z_tabIn (off := 111) 112 C dX4_count_1 (by decide) (by decide) (by decide) (by decide) ?_
      refine z_aload_n C dX4_count_112 rfl rfl ?_
      refine z_get eK4 0 0 C dX4_count_113 rfl rfl q1671 (eSame1 rfl) (by decide) rfl ?_
      refine z_sipush (v := 296) C dX4_count_116 (by decide) ?_
      refine z_iload_n C dX4_count_119 rfl rfl ?_
      refine z_iadd (w := nI (296 + 1)) C dX4_count_120 (nI_add 296 1) ?_
      refine z_iald (m := (296 + 1)) (v := A.u.cm) 1 C dX4_count_121 rfl rfl (by omega) (by decide) (R.2.2.2.1 1 (by decide)) ?_
      subst hQ_
      exact z_ret (Γ := [eO a 4 [.ref o.sa, .ref o.pa, .ref o.ha, .ref o.xa, .int o.pn, .int o.ru, .ref o.ta, .int o.ty, .int o.sp, .int o.fr, .int o.re, .int o.ca, .int o.os, .int o.od, .ref o.na], eIA E o.sa 311 f]) C dX4_count_122 rfl rfl (Nat.le_of_ble_eq_true rfl) (Nat.le_of_ble_eq_true rfl) ⟨by rw [gCountQ, if_neg (by decide), if_pos (by decide)], rfl⟩
    · show eZ x E _ [eO a 4 [.ref o.sa, .ref o.pa, .ref o.ha, .ref o.xa, .int o.pn, .int o.ru, .ref o.ta, .int o.ty, .int o.sp, .int o.fr, .int o.re, .int o.ca, .int o.os, .int o.od, .ref o.na], eIA E o.sa 311 f, rs] 1 [some (.ref a), some (.int (nI 2))] [.int (nI 2)] 0 0
      refine z_tabIn (off := 122) 123 C dX4_count_1 (by decide) (by decide) (by decide) (by decide) ?_
      refine z_aload_n C dX4_count_123 rfl rfl ?_
      refine z_callV (r := (RX4, TX4, 15)) (As := []) (rest := []) (Δ := [rs]) [0, 1] [2] 0 (m_MinQueues hl E a o f A hok hwf R) C dX4_count_124 rfl rfl (eIn (i := 0) rfl List.mem_cons_self) rfl rfl q1878 q1880 qs41 q67 q1881 (by decide +kernel) rfl (ePm 3 rfl (by decide +kernel)) rfl rfl ⟨Nat.le_of_ble_eq_true rfl, Nat.le_of_ble_eq_true rfl⟩ (Nat.le_trans eS0 (Nat.le_of_ble_eq_true rfl)) ⟨Nat.le_of_ble_eq_true rfl, Nat.le_of_ble_eq_true rfl⟩ (fun v_ Γ_ hp_ => ?_)
      obtain ⟨rfl, rfl⟩ := hp_
      show eZ x E _ [eO a 4 [.ref o.sa, .ref o.pa, .ref o.ha, .ref o.xa, .int o.pn, .int o.ru, .ref o.ta, .int o.ty, .int o.sp, .int o.fr, .int o.re, .int o.ca, .int o.os, .int o.od, .ref o.na], eIA E o.sa 311 f, rs] 127 [some (.ref a), some (.int (nI 2))] [.int (gInQ A)] 0 0
      subst hQ_
      exact z_ret (Γ := [eO a 4 [.ref o.sa, .ref o.pa, .ref o.ha, .ref o.xa, .int o.pn, .int o.ru, .ref o.ta, .int o.ty, .int o.sp, .int o.fr, .int o.re, .int o.ca, .int o.os, .int o.od, .ref o.na], eIA E o.sa 311 f]) C dX4_count_127 rfl rfl (Nat.le_of_ble_eq_true rfl) (Nat.le_of_ble_eq_true rfl) ⟨by rw [gCountQ, if_neg (by decide), if_neg (by decide), if_pos (by decide)], rfl⟩
    · show eZ x E _ [eO a 4 [.ref o.sa, .ref o.pa, .ref o.ha, .ref o.xa, .int o.pn, .int o.ru, .ref o.ta, .int o.ty, .int o.sp, .int o.fr, .int o.re, .int o.ca, .int o.os, .int o.od, .ref o.na], eIA E o.sa 311 f, rs] 1 [some (.ref a), some (.int (nI 3))] [.int (nI 3)] 0 0
      refine z_tabIn (off := 127) 128 C dX4_count_1 (by decide) (by decide) (by decide) (by decide) ?_
      refine z_aload_n C dX4_count_128 rfl rfl ?_
      refine z_get eK4 0 0 C dX4_count_129 rfl rfl q1671 (eSame1 rfl) (by decide) rfl ?_
      refine z_sipush (v := 298) C dX4_count_132 (by decide) ?_
      refine z_iload_n C dX4_count_135 rfl rfl ?_
      refine z_iadd (w := nI (298 + 3)) C dX4_count_136 (nI_add 298 3) ?_
      refine z_iconst (v := 3) C dX4_count_137 (by decide) ?_
      refine z_isub (w := nI (298 + 0)) C dX4_count_138 (by decide) ?_
      refine z_iald (m := (298 + 0)) (v := gOfC A 3) 1 C dX4_count_139 rfl rfl (by omega) (by decide) (R.2.2.2.1 2 (by decide)) ?_
      subst hQ_
      exact z_ret (Γ := [eO a 4 [.ref o.sa, .ref o.pa, .ref o.ha, .ref o.xa, .int o.pn, .int o.ru, .ref o.ta, .int o.ty, .int o.sp, .int o.fr, .int o.re, .int o.ca, .int o.os, .int o.od, .ref o.na], eIA E o.sa 311 f]) C dX4_count_140 rfl rfl (Nat.le_of_ble_eq_true rfl) (Nat.le_of_ble_eq_true rfl) ⟨by rw [gCountQ, if_neg (by decide), if_neg (by decide), if_neg (by decide), if_pos (by decide)]; rfl, rfl⟩
    · show eZ x E _ [eO a 4 [.ref o.sa, .ref o.pa, .ref o.ha, .ref o.xa, .int o.pn, .int o.ru, .ref o.ta, .int o.ty, .int o.sp, .int o.fr, .int o.re, .int o.ca, .int o.os, .int o.od, .ref o.na], eIA E o.sa 311 f, rs] 1 [some (.ref a), some (.int (nI 4))] [.int (nI 4)] 0 0
      refine z_tabIn (off := 127) 128 C dX4_count_1 (by decide) (by decide) (by decide) (by decide) ?_
      refine z_aload_n C dX4_count_128 rfl rfl ?_
      refine z_get eK4 0 0 C dX4_count_129 rfl rfl q1671 (eSame1 rfl) (by decide) rfl ?_
      refine z_sipush (v := 298) C dX4_count_132 (by decide) ?_
      refine z_iload_n C dX4_count_135 rfl rfl ?_
      refine z_iadd (w := nI (298 + 4)) C dX4_count_136 (nI_add 298 4) ?_
      refine z_iconst (v := 3) C dX4_count_137 (by decide) ?_
      refine z_isub (w := nI (298 + 1)) C dX4_count_138 (by decide) ?_
      refine z_iald (m := (298 + 1)) (v := A.u.dk) 1 C dX4_count_139 rfl rfl (by omega) (by decide) (R.2.2.2.1 3 (by decide)) ?_
      subst hQ_
      exact z_ret (Γ := [eO a 4 [.ref o.sa, .ref o.pa, .ref o.ha, .ref o.xa, .int o.pn, .int o.ru, .ref o.ta, .int o.ty, .int o.sp, .int o.fr, .int o.re, .int o.ca, .int o.os, .int o.od, .ref o.na], eIA E o.sa 311 f]) C dX4_count_140 rfl rfl (Nat.le_of_ble_eq_true rfl) (Nat.le_of_ble_eq_true rfl) ⟨by rw [gCountQ, if_neg (by decide), if_neg (by decide), if_neg (by decide), if_neg (by decide), if_pos (by decide)], rfl⟩
    · show eZ x E _ [eO a 4 [.ref o.sa, .ref o.pa, .ref o.ha, .ref o.xa, .int o.pn, .int o.ru, .ref o.ta, .int o.ty, .int o.sp, .int o.fr, .int o.re, .int o.ca, .int o.os, .int o.od, .ref o.na], eIA E o.sa 311 f, rs] 1 [some (.ref a), some (.int (nI 5))] [.int (nI 5)] 0 0
      refine z_tabIn (off := 127) 128 C dX4_count_1 (by decide) (by decide) (by decide) (by decide) ?_
      refine z_aload_n C dX4_count_128 rfl rfl ?_
      refine z_get eK4 0 0 C dX4_count_129 rfl rfl q1671 (eSame1 rfl) (by decide) rfl ?_
      refine z_sipush (v := 298) C dX4_count_132 (by decide) ?_
      refine z_iload_n C dX4_count_135 rfl rfl ?_
      refine z_iadd (w := nI (298 + 5)) C dX4_count_136 (nI_add 298 5) ?_
      refine z_iconst (v := 3) C dX4_count_137 (by decide) ?_
      refine z_isub (w := nI (298 + 2)) C dX4_count_138 (by decide) ?_
      refine z_iald (m := (298 + 2)) (v := gCks A) 1 C dX4_count_139 rfl rfl (by omega) (by decide) (R.2.2.2.1 4 (by decide)) ?_
      subst hQ_
      exact z_ret (Γ := [eO a 4 [.ref o.sa, .ref o.pa, .ref o.ha, .ref o.xa, .int o.pn, .int o.ru, .ref o.ta, .int o.ty, .int o.sp, .int o.fr, .int o.re, .int o.ca, .int o.os, .int o.od, .ref o.na], eIA E o.sa 311 f]) C dX4_count_140 rfl rfl (Nat.le_of_ble_eq_true rfl) (Nat.le_of_ble_eq_true rfl) ⟨by rw [gCountQ, if_neg (by decide), if_neg (by decide), if_neg (by decide), if_neg (by decide), if_neg (by decide), if_pos (by decide)], rfl⟩
    · show eZ x E _ [eO a 4 [.ref o.sa, .ref o.pa, .ref o.ha, .ref o.xa, .int o.pn, .int o.ru, .ref o.ta, .int o.ty, .int o.sp, .int o.fr, .int o.re, .int o.ca, .int o.os, .int o.od, .ref o.na], eIA E o.sa 311 f, rs] 1 [some (.ref a), some (.int (nI 6))] [.int (nI 6)] 0 0
      refine z_tabIn (off := 127) 128 C dX4_count_1 (by decide) (by decide) (by decide) (by decide) ?_
      refine z_aload_n C dX4_count_128 rfl rfl ?_
      refine z_get eK4 0 0 C dX4_count_129 rfl rfl q1671 (eSame1 rfl) (by decide) rfl ?_
      refine z_sipush (v := 298) C dX4_count_132 (by decide) ?_
      refine z_iload_n C dX4_count_135 rfl rfl ?_
      refine z_iadd (w := nI (298 + 6)) C dX4_count_136 (nI_add 298 6) ?_
      refine z_iconst (v := 3) C dX4_count_137 (by decide) ?_
      refine z_isub (w := nI (298 + 3)) C dX4_count_138 (by decide) ?_
      refine z_iald (m := (298 + 3)) (v := A.u.co) 1 C dX4_count_139 rfl rfl (by omega) (by decide) (R.2.2.2.1 5 (by decide)) ?_
      subst hQ_
      exact z_ret (Γ := [eO a 4 [.ref o.sa, .ref o.pa, .ref o.ha, .ref o.xa, .int o.pn, .int o.ru, .ref o.ta, .int o.ty, .int o.sp, .int o.fr, .int o.re, .int o.ca, .int o.os, .int o.od, .ref o.na], eIA E o.sa 311 f]) C dX4_count_140 rfl rfl (Nat.le_of_ble_eq_true rfl) (Nat.le_of_ble_eq_true rfl) ⟨by rw [gCountQ, if_neg (by decide), if_neg (by decide), if_neg (by decide), if_neg (by decide), if_neg (by decide), if_neg (by decide), if_pos (by decide)], rfl⟩
    · show eZ x E _ [eO a 4 [.ref o.sa, .ref o.pa, .ref o.ha, .ref o.xa, .int o.pn, .int o.ru, .ref o.ta, .int o.ty, .int o.sp, .int o.fr, .int o.re, .int o.ca, .int o.os, .int o.od, .ref o.na], eIA E o.sa 311 f, rs] 1 [some (.ref a), some (.int (nI 7))] [.int (nI 7)] 0 0
      refine z_tabIn (off := 127) 128 C dX4_count_1 (by decide) (by decide) (by decide) (by decide) ?_
      refine z_aload_n C dX4_count_128 rfl rfl ?_
      refine z_get eK4 0 0 C dX4_count_129 rfl rfl q1671 (eSame1 rfl) (by decide) rfl ?_
      refine z_sipush (v := 298) C dX4_count_132 (by decide) ?_
      refine z_iload_n C dX4_count_135 rfl rfl ?_
      refine z_iadd (w := nI (298 + 7)) C dX4_count_136 (nI_add 298 7) ?_
      refine z_iconst (v := 3) C dX4_count_137 (by decide) ?_
      refine z_isub (w := nI (298 + 4)) C dX4_count_138 (by decide) ?_
      refine z_iald (m := (298 + 4)) (v := gOfC A 7) 1 C dX4_count_139 rfl rfl (by omega) (by decide) (R.2.2.2.1 6 (by decide)) ?_
      subst hQ_
      exact z_ret (Γ := [eO a 4 [.ref o.sa, .ref o.pa, .ref o.ha, .ref o.xa, .int o.pn, .int o.ru, .ref o.ta, .int o.ty, .int o.sp, .int o.fr, .int o.re, .int o.ca, .int o.os, .int o.od, .ref o.na], eIA E o.sa 311 f]) C dX4_count_140 rfl rfl (Nat.le_of_ble_eq_true rfl) (Nat.le_of_ble_eq_true rfl) ⟨by rw [gCountQ, if_neg (by decide), if_neg (by decide), if_neg (by decide), if_neg (by decide), if_neg (by decide), if_neg (by decide), if_neg (by decide), if_pos (by decide)]; rfl, rfl⟩
    · show eZ x E _ [eO a 4 [.ref o.sa, .ref o.pa, .ref o.ha, .ref o.xa, .int o.pn, .int o.ru, .ref o.ta, .int o.ty, .int o.sp, .int o.fr, .int o.re, .int o.ca, .int o.os, .int o.od, .ref o.na], eIA E o.sa 311 f, rs] 1 [some (.ref a), some (.int (nI 8))] [.int (nI 8)] 0 0
      refine z_tabIn (off := 127) 128 C dX4_count_1 (by decide) (by decide) (by decide) (by decide) ?_
      refine z_aload_n C dX4_count_128 rfl rfl ?_
      refine z_get eK4 0 0 C dX4_count_129 rfl rfl q1671 (eSame1 rfl) (by decide) rfl ?_
      refine z_sipush (v := 298) C dX4_count_132 (by decide) ?_
      refine z_iload_n C dX4_count_135 rfl rfl ?_
      refine z_iadd (w := nI (298 + 8)) C dX4_count_136 (nI_add 298 8) ?_
      refine z_iconst (v := 3) C dX4_count_137 (by decide) ?_
      refine z_isub (w := nI (298 + 5)) C dX4_count_138 (by decide) ?_
      refine z_iald (m := (298 + 5)) (v := gOfC A 8) 1 C dX4_count_139 rfl rfl (by omega) (by decide) (R.2.2.2.1 7 (by decide)) ?_
      subst hQ_
      exact z_ret (Γ := [eO a 4 [.ref o.sa, .ref o.pa, .ref o.ha, .ref o.xa, .int o.pn, .int o.ru, .ref o.ta, .int o.ty, .int o.sp, .int o.fr, .int o.re, .int o.ca, .int o.os, .int o.od, .ref o.na], eIA E o.sa 311 f]) C dX4_count_140 rfl rfl (Nat.le_of_ble_eq_true rfl) (Nat.le_of_ble_eq_true rfl) ⟨by rw [gCountQ, if_neg (by decide), if_neg (by decide), if_neg (by decide), if_neg (by decide), if_neg (by decide), if_neg (by decide), if_neg (by decide), if_neg (by decide), if_pos (by decide)]; rfl, rfl⟩
    · show eZ x E _ [eO a 4 [.ref o.sa, .ref o.pa, .ref o.ha, .ref o.xa, .int o.pn, .int o.ru, .ref o.ta, .int o.ty, .int o.sp, .int o.fr, .int o.re, .int o.ca, .int o.os, .int o.od, .ref o.na], eIA E o.sa 311 f, rs] 1 [some (.ref a), some (.int (nI 9))] [.int (nI 9)] 0 0
      refine z_tabIn (off := 127) 128 C dX4_count_1 (by decide) (by decide) (by decide) (by decide) ?_
      refine z_aload_n C dX4_count_128 rfl rfl ?_
      refine z_get eK4 0 0 C dX4_count_129 rfl rfl q1671 (eSame1 rfl) (by decide) rfl ?_
      refine z_sipush (v := 298) C dX4_count_132 (by decide) ?_
      refine z_iload_n C dX4_count_135 rfl rfl ?_
      refine z_iadd (w := nI (298 + 9)) C dX4_count_136 (nI_add 298 9) ?_
      refine z_iconst (v := 3) C dX4_count_137 (by decide) ?_
      refine z_isub (w := nI (298 + 6)) C dX4_count_138 (by decide) ?_
      refine z_iald (m := (298 + 6)) (v := A.u.lk) 1 C dX4_count_139 rfl rfl (by omega) (by decide) (R.2.2.2.1 8 (by decide)) ?_
      subst hQ_
      exact z_ret (Γ := [eO a 4 [.ref o.sa, .ref o.pa, .ref o.ha, .ref o.xa, .int o.pn, .int o.ru, .ref o.ta, .int o.ty, .int o.sp, .int o.fr, .int o.re, .int o.ca, .int o.os, .int o.od, .ref o.na], eIA E o.sa 311 f]) C dX4_count_140 rfl rfl (Nat.le_of_ble_eq_true rfl) (Nat.le_of_ble_eq_true rfl) ⟨by rw [gCountQ, if_neg (by decide), if_neg (by decide), if_neg (by decide), if_neg (by decide), if_neg (by decide), if_neg (by decide), if_neg (by decide), if_neg (by decide), if_neg (by decide), if_pos (by decide)], rfl⟩
    · show eZ x E _ [eO a 4 [.ref o.sa, .ref o.pa, .ref o.ha, .ref o.xa, .int o.pn, .int o.ru, .ref o.ta, .int o.ty, .int o.sp, .int o.fr, .int o.re, .int o.ca, .int o.os, .int o.od, .ref o.na], eIA E o.sa 311 f, rs] 1 [some (.ref a), some (.int (nI 10))] [.int (nI 10)] 0 0
      refine z_tabIn (off := 127) 128 C dX4_count_1 (by decide) (by decide) (by decide) (by decide) ?_
      refine z_aload_n C dX4_count_128 rfl rfl ?_
      refine z_get eK4 0 0 C dX4_count_129 rfl rfl q1671 (eSame1 rfl) (by decide) rfl ?_
      refine z_sipush (v := 298) C dX4_count_132 (by decide) ?_
      refine z_iload_n C dX4_count_135 rfl rfl ?_
      refine z_iadd (w := nI (298 + 10)) C dX4_count_136 (nI_add 298 10) ?_
      refine z_iconst (v := 3) C dX4_count_137 (by decide) ?_
      refine z_isub (w := nI (298 + 7)) C dX4_count_138 (by decide) ?_
      refine z_iald (m := (298 + 7)) (v := nI A.bs.length) 1 C dX4_count_139 rfl rfl (by omega) (by decide) (R.2.2.2.1 9 (by decide)) ?_
      subst hQ_
      exact z_ret (Γ := [eO a 4 [.ref o.sa, .ref o.pa, .ref o.ha, .ref o.xa, .int o.pn, .int o.ru, .ref o.ta, .int o.ty, .int o.sp, .int o.fr, .int o.re, .int o.ca, .int o.os, .int o.od, .ref o.na], eIA E o.sa 311 f]) C dX4_count_140 rfl rfl (Nat.le_of_ble_eq_true rfl) (Nat.le_of_ble_eq_true rfl) ⟨by rw [gCountQ, if_neg (by decide), if_neg (by decide), if_neg (by decide), if_neg (by decide), if_neg (by decide), if_neg (by decide), if_neg (by decide), if_neg (by decide), if_neg (by decide), if_neg (by decide), if_pos (by decide)], rfl⟩
    · show eZ x E _ [eO a 4 [.ref o.sa, .ref o.pa, .ref o.ha, .ref o.xa, .int o.pn, .int o.ru, .ref o.ta, .int o.ty, .int o.sp, .int o.fr, .int o.re, .int o.ca, .int o.os, .int o.od, .ref o.na], eIA E o.sa 311 f, rs] 1 [some (.ref a), some (.int (nI 11))] [.int (nI 11)] 0 0
      refine z_tabIn (off := 140) 141 C dX4_count_1 (by decide) (by decide) (by decide) (by decide) ?_
      refine z_aload_n C dX4_count_141 rfl rfl ?_
      refine z_get eK4 0 4 C dX4_count_142 rfl rfl q1675 (eSame1 rfl) (by decide) rfl ?_
      subst hQ_
      exact z_ret (Γ := [eO a 4 [.ref o.sa, .ref o.pa, .ref o.ha, .ref o.xa, .int o.pn, .int o.ru, .ref o.ta, .int o.ty, .int o.sp, .int o.fr, .int o.re, .int o.ca, .int o.os, .int o.od, .ref o.na], eIA E o.sa 311 f]) C dX4_count_145 rfl rfl (Nat.le_of_ble_eq_true rfl) (Nat.le_of_ble_eq_true rfl) ⟨by rw [gCountQ, if_neg (by decide), if_neg (by decide), if_neg (by decide), if_neg (by decide), if_neg (by decide), if_neg (by decide), if_neg (by decide), if_neg (by decide), if_neg (by decide), if_neg (by decide), if_neg (by decide), if_pos (by decide), hpn], rfl⟩
    · show eZ x E _ [eO a 4 [.ref o.sa, .ref o.pa, .ref o.ha, .ref o.xa, .int o.pn, .int o.ru, .ref o.ta, .int o.ty, .int o.sp, .int o.fr, .int o.re, .int o.ca, .int o.os, .int o.od, .ref o.na], eIA E o.sa 311 f, rs] 1 [some (.ref a), some (.int (nI 12))] [.int (nI 12)] 0 0
      refine z_tabIn (off := 145) 146 C dX4_count_1 (by decide) (by decide) (by decide) (by decide) ?_
      refine z_aload_n C dX4_count_146 rfl rfl ?_
      refine z_get eK4 0 7 C dX4_count_147 rfl rfl q1678 (eSame1 rfl) (by decide) rfl ?_
      subst hQ_
      exact z_ret (Γ := [eO a 4 [.ref o.sa, .ref o.pa, .ref o.ha, .ref o.xa, .int o.pn, .int o.ru, .ref o.ta, .int o.ty, .int o.sp, .int o.fr, .int o.re, .int o.ca, .int o.os, .int o.od, .ref o.na], eIA E o.sa 311 f]) C dX4_count_150 rfl rfl (Nat.le_of_ble_eq_true rfl) (Nat.le_of_ble_eq_true rfl) ⟨by rw [gCountQ, if_neg (by decide), if_neg (by decide), if_neg (by decide), if_neg (by decide), if_neg (by decide), if_neg (by decide), if_neg (by decide), if_neg (by decide), if_neg (by decide), if_neg (by decide), if_neg (by decide), if_neg (by decide), if_pos (by decide), hty], rfl⟩
    · show eZ x E _ [eO a 4 [.ref o.sa, .ref o.pa, .ref o.ha, .ref o.xa, .int o.pn, .int o.ru, .ref o.ta, .int o.ty, .int o.sp, .int o.fr, .int o.re, .int o.ca, .int o.os, .int o.od, .ref o.na], eIA E o.sa 311 f, rs] 1 [some (.ref a), some (.int (nI 13))] [.int (nI 13)] 0 0
      refine z_tabIn (off := 164) 165 C dX4_count_1 (by decide) (by decide) (by decide) (by decide) ?_
      refine z_ldc C dX4_count_165 rfl q1727 ?_
      subst hQ_
      exact z_ret (Γ := [eO a 4 [.ref o.sa, .ref o.pa, .ref o.ha, .ref o.xa, .int o.pn, .int o.ru, .ref o.ta, .int o.ty, .int o.sp, .int o.fr, .int o.re, .int o.ca, .int o.os, .int o.od, .ref o.na], eIA E o.sa 311 f]) C dX4_count_167 rfl rfl (Nat.le_of_ble_eq_true rfl) (Nat.le_of_ble_eq_true rfl) ⟨by rw [gCountQ, if_neg (by decide), if_neg (by decide), if_neg (by decide), if_neg (by decide), if_neg (by decide), if_neg (by decide), if_neg (by decide), if_neg (by decide), if_neg (by decide), if_neg (by decide), if_neg (by decide), if_neg (by decide), if_neg (by decide), if_neg (by decide)], rfl⟩
    · show eZ x E _ [eO a 4 [.ref o.sa, .ref o.pa, .ref o.ha, .ref o.xa, .int o.pn, .int o.ru, .ref o.ta, .int o.ty, .int o.sp, .int o.fr, .int o.re, .int o.ca, .int o.os, .int o.od, .ref o.na], eIA E o.sa 311 f, rs] 1 [some (.ref a), some (.int (nI 14))] [.int (nI 14)] 0 0
      refine z_tabIn (off := 164) 165 C dX4_count_1 (by decide) (by decide) (by decide) (by decide) ?_
      refine z_ldc C dX4_count_165 rfl q1727 ?_
      subst hQ_
      exact z_ret (Γ := [eO a 4 [.ref o.sa, .ref o.pa, .ref o.ha, .ref o.xa, .int o.pn, .int o.ru, .ref o.ta, .int o.ty, .int o.sp, .int o.fr, .int o.re, .int o.ca, .int o.os, .int o.od, .ref o.na], eIA E o.sa 311 f]) C dX4_count_167 rfl rfl (Nat.le_of_ble_eq_true rfl) (Nat.le_of_ble_eq_true rfl) ⟨by rw [gCountQ, if_neg (by decide), if_neg (by decide), if_neg (by decide), if_neg (by decide), if_neg (by decide), if_neg (by decide), if_neg (by decide), if_neg (by decide), if_neg (by decide), if_neg (by decide), if_neg (by decide), if_neg (by decide), if_neg (by decide), if_neg (by decide)], rfl⟩
    · show eZ x E _ [eO a 4 [.ref o.sa, .ref o.pa, .ref o.ha, .ref o.xa, .int o.pn, .int o.ru, .ref o.ta, .int o.ty, .int o.sp, .int o.fr, .int o.re, .int o.ca, .int o.os, .int o.od, .ref o.na], eIA E o.sa 311 f, rs] 1 [some (.ref a), some (.int (nI 15))] [.int (nI 15)] 0 0
      refine z_tabIn (off := 164) 165 C dX4_count_1 (by decide) (by decide) (by decide) (by decide) ?_
      refine z_ldc C dX4_count_165 rfl q1727 ?_
      subst hQ_
      exact z_ret (Γ := [eO a 4 [.ref o.sa, .ref o.pa, .ref o.ha, .ref o.xa, .int o.pn, .int o.ru, .ref o.ta, .int o.ty, .int o.sp, .int o.fr, .int o.re, .int o.ca, .int o.os, .int o.od, .ref o.na], eIA E o.sa 311 f]) C dX4_count_167 rfl rfl (Nat.le_of_ble_eq_true rfl) (Nat.le_of_ble_eq_true rfl) ⟨by rw [gCountQ, if_neg (by decide), if_neg (by decide), if_neg (by decide), if_neg (by decide), if_neg (by decide), if_neg (by decide), if_neg (by decide), if_neg (by decide), if_neg (by decide), if_neg (by decide), if_neg (by decide), if_neg (by decide), if_neg (by decide), if_neg (by decide)], rfl⟩
    · show eZ x E _ [eO a 4 [.ref o.sa, .ref o.pa, .ref o.ha, .ref o.xa, .int o.pn, .int o.ru, .ref o.ta, .int o.ty, .int o.sp, .int o.fr, .int o.re, .int o.ca, .int o.os, .int o.od, .ref o.na], eIA E o.sa 311 f, rs] 1 [some (.ref a), some (.int (nI 16))] [.int (nI 16)] 0 0
      refine z_tabIn (off := 164) 165 C dX4_count_1 (by decide) (by decide) (by decide) (by decide) ?_
      refine z_ldc C dX4_count_165 rfl q1727 ?_
      subst hQ_
      exact z_ret (Γ := [eO a 4 [.ref o.sa, .ref o.pa, .ref o.ha, .ref o.xa, .int o.pn, .int o.ru, .ref o.ta, .int o.ty, .int o.sp, .int o.fr, .int o.re, .int o.ca, .int o.os, .int o.od, .ref o.na], eIA E o.sa 311 f]) C dX4_count_167 rfl rfl (Nat.le_of_ble_eq_true rfl) (Nat.le_of_ble_eq_true rfl) ⟨by rw [gCountQ, if_neg (by decide), if_neg (by decide), if_neg (by decide), if_neg (by decide), if_neg (by decide), if_neg (by decide), if_neg (by decide), if_neg (by decide), if_neg (by decide), if_neg (by decide), if_neg (by decide), if_neg (by decide), if_neg (by decide), if_neg (by decide)], rfl⟩
    · show eZ x E _ [eO a 4 [.ref o.sa, .ref o.pa, .ref o.ha, .ref o.xa, .int o.pn, .int o.ru, .ref o.ta, .int o.ty, .int o.sp, .int o.fr, .int o.re, .int o.ca, .int o.os, .int o.od, .ref o.na], eIA E o.sa 311 f, rs] 1 [some (.ref a), some (.int (nI 17))] [.int (nI 17)] 0 0
      refine z_tabIn (off := 164) 165 C dX4_count_1 (by decide) (by decide) (by decide) (by decide) ?_
      refine z_ldc C dX4_count_165 rfl q1727 ?_
      subst hQ_
      exact z_ret (Γ := [eO a 4 [.ref o.sa, .ref o.pa, .ref o.ha, .ref o.xa, .int o.pn, .int o.ru, .ref o.ta, .int o.ty, .int o.sp, .int o.fr, .int o.re, .int o.ca, .int o.os, .int o.od, .ref o.na], eIA E o.sa 311 f]) C dX4_count_167 rfl rfl (Nat.le_of_ble_eq_true rfl) (Nat.le_of_ble_eq_true rfl) ⟨by rw [gCountQ, if_neg (by decide), if_neg (by decide), if_neg (by decide), if_neg (by decide), if_neg (by decide), if_neg (by decide), if_neg (by decide), if_neg (by decide), if_neg (by decide), if_neg (by decide), if_neg (by decide), if_neg (by decide), if_neg (by decide), if_neg (by decide)], rfl⟩
    · show eZ x E _ [eO a 4 [.ref o.sa, .ref o.pa, .ref o.ha, .ref o.xa, .int o.pn, .int o.ru, .ref o.ta, .int o.ty, .int o.sp, .int o.fr, .int o.re, .int o.ca, .int o.os, .int o.od, .ref o.na], eIA E o.sa 311 f, rs] 1 [some (.ref a), some (.int (nI 18))] [.int (nI 18)] 0 0
      refine z_tabIn (off := 164) 165 C dX4_count_1 (by decide) (by decide) (by decide) (by decide) ?_
      refine z_ldc C dX4_count_165 rfl q1727 ?_
      subst hQ_
      exact z_ret (Γ := [eO a 4 [.ref o.sa, .ref o.pa, .ref o.ha, .ref o.xa, .int o.pn, .int o.ru, .ref o.ta, .int o.ty, .int o.sp, .int o.fr, .int o.re, .int o.ca, .int o.os, .int o.od, .ref o.na], eIA E o.sa 311 f]) C dX4_count_167 rfl rfl (Nat.le_of_ble_eq_true rfl) (Nat.le_of_ble_eq_true rfl) ⟨by rw [gCountQ, if_neg (by decide), if_neg (by decide), if_neg (by decide), if_neg (by decide), if_neg (by decide), if_neg (by decide), if_neg (by decide), if_neg (by decide), if_neg (by decide), if_neg (by decide), if_neg (by decide), if_neg (by decide), if_neg (by decide), if_neg (by decide)], rfl⟩
    · show eZ x E _ [eO a 4 [.ref o.sa, .ref o.pa, .ref o.ha, .ref o.xa, .int o.pn, .int o.ru, .ref o.ta, .int o.ty, .int o.sp, .int o.fr, .int o.re, .int o.ca, .int o.os, .int o.od, .ref o.na], eIA E o.sa 311 f, rs] 1 [some (.ref a), some (.int (nI 19))] [.int (nI 19)] 0 0
      refine z_tabIn (off := 164) 165 C dX4_count_1 (by decide) (by decide) (by decide) (by decide) ?_
      refine z_ldc C dX4_count_165 rfl q1727 ?_
      subst hQ_
      exact z_ret (Γ := [eO a 4 [.ref o.sa, .ref o.pa, .ref o.ha, .ref o.xa, .int o.pn, .int o.ru, .ref o.ta, .int o.ty, .int o.sp, .int o.fr, .int o.re, .int o.ca, .int o.os, .int o.od, .ref o.na], eIA E o.sa 311 f]) C dX4_count_167 rfl rfl (Nat.le_of_ble_eq_true rfl) (Nat.le_of_ble_eq_true rfl) ⟨by rw [gCountQ, if_neg (by decide), if_neg (by decide), if_neg (by decide), if_neg (by decide), if_neg (by decide), if_neg (by decide), if_neg (by decide), if_neg (by decide), if_neg (by decide), if_neg (by decide), if_neg (by decide), if_neg (by decide), if_neg (by decide), if_neg (by decide)], rfl⟩
    · show eZ x E _ [eO a 4 [.ref o.sa, .ref o.pa, .ref o.ha, .ref o.xa, .int o.pn, .int o.ru, .ref o.ta, .int o.ty, .int o.sp, .int o.fr, .int o.re, .int o.ca, .int o.os, .int o.od, .ref o.na], eIA E o.sa 311 f, rs] 1 [some (.ref a), some (.int (nI 20))] [.int (nI 20)] 0 0
      refine z_tabIn (off := 150) 151 C dX4_count_1 (by decide) (by decide) (by decide) (by decide) ?_
      refine z_aload_n C dX4_count_151 rfl rfl ?_
      refine z_get eK4 0 0 C dX4_count_152 rfl rfl q1671 (eSame1 rfl) (by decide) rfl ?_
      refine z_sipush (v := 307) C dX4_count_155 (by decide) ?_
      refine z_iload_n C dX4_count_158 rfl rfl ?_
      refine z_iadd (w := nI (307 + 20)) C dX4_count_159 (nI_add 307 20) ?_
      refine z_bipush (v := 20) C dX4_count_160 (by decide) ?_
      refine z_isub (w := nI (307 + 0)) C dX4_count_162 (by decide) ?_
      refine z_iald (m := (307 + 0)) (v := A.st 0) 1 C dX4_count_163 rfl rfl (by omega) (by decide) (R.2.2.2.2 0 (by decide)) ?_
      subst hQ_
      exact z_ret (Γ := [eO a 4 [.ref o.sa, .ref o.pa, .ref o.ha, .ref o.xa, .int o.pn, .int o.ru, .ref o.ta, .int o.ty, .int o.sp, .int o.fr, .int o.re, .int o.ca, .int o.os, .int o.od, .ref o.na], eIA E o.sa 311 f]) C dX4_count_164 rfl rfl (Nat.le_of_ble_eq_true rfl) (Nat.le_of_ble_eq_true rfl) ⟨by rw [gCountQ, if_neg (by decide), if_neg (by decide), if_neg (by decide), if_neg (by decide), if_neg (by decide), if_neg (by decide), if_neg (by decide), if_neg (by decide), if_neg (by decide), if_neg (by decide), if_neg (by decide), if_neg (by decide), if_neg (by decide), if_pos (by decide)]; rfl, rfl⟩
    · show eZ x E _ [eO a 4 [.ref o.sa, .ref o.pa, .ref o.ha, .ref o.xa, .int o.pn, .int o.ru, .ref o.ta, .int o.ty, .int o.sp, .int o.fr, .int o.re, .int o.ca, .int o.os, .int o.od, .ref o.na], eIA E o.sa 311 f, rs] 1 [some (.ref a), some (.int (nI 21))] [.int (nI 21)] 0 0
      refine z_tabIn (off := 150) 151 C dX4_count_1 (by decide) (by decide) (by decide) (by decide) ?_
      refine z_aload_n C dX4_count_151 rfl rfl ?_
      refine z_get eK4 0 0 C dX4_count_152 rfl rfl q1671 (eSame1 rfl) (by decide) rfl ?_
      refine z_sipush (v := 307) C dX4_count_155 (by decide) ?_
      refine z_iload_n C dX4_count_158 rfl rfl ?_
      refine z_iadd (w := nI (307 + 21)) C dX4_count_159 (nI_add 307 21) ?_
      refine z_bipush (v := 20) C dX4_count_160 (by decide) ?_
      refine z_isub (w := nI (307 + 1)) C dX4_count_162 (by decide) ?_
      refine z_iald (m := (307 + 1)) (v := A.st 1) 1 C dX4_count_163 rfl rfl (by omega) (by decide) (R.2.2.2.2 1 (by decide)) ?_
      subst hQ_
      exact z_ret (Γ := [eO a 4 [.ref o.sa, .ref o.pa, .ref o.ha, .ref o.xa, .int o.pn, .int o.ru, .ref o.ta, .int o.ty, .int o.sp, .int o.fr, .int o.re, .int o.ca, .int o.os, .int o.od, .ref o.na], eIA E o.sa 311 f]) C dX4_count_164 rfl rfl (Nat.le_of_ble_eq_true rfl) (Nat.le_of_ble_eq_true rfl) ⟨by rw [gCountQ, if_neg (by decide), if_neg (by decide), if_neg (by decide), if_neg (by decide), if_neg (by decide), if_neg (by decide), if_neg (by decide), if_neg (by decide), if_neg (by decide), if_neg (by decide), if_neg (by decide), if_neg (by decide), if_neg (by decide), if_pos (by decide)]; rfl, rfl⟩
    · show eZ x E _ [eO a 4 [.ref o.sa, .ref o.pa, .ref o.ha, .ref o.xa, .int o.pn, .int o.ru, .ref o.ta, .int o.ty, .int o.sp, .int o.fr, .int o.re, .int o.ca, .int o.os, .int o.od, .ref o.na], eIA E o.sa 311 f, rs] 1 [some (.ref a), some (.int (nI 22))] [.int (nI 22)] 0 0
      refine z_tabIn (off := 150) 151 C dX4_count_1 (by decide) (by decide) (by decide) (by decide) ?_
      refine z_aload_n C dX4_count_151 rfl rfl ?_
      refine z_get eK4 0 0 C dX4_count_152 rfl rfl q1671 (eSame1 rfl) (by decide) rfl ?_
      refine z_sipush (v := 307) C dX4_count_155 (by decide) ?_
      refine z_iload_n C dX4_count_158 rfl rfl ?_
      refine z_iadd (w := nI (307 + 22)) C dX4_count_159 (nI_add 307 22) ?_
      refine z_bipush (v := 20) C dX4_count_160 (by decide) ?_
      refine z_isub (w := nI (307 + 2)) C dX4_count_162 (by decide) ?_
      refine z_iald (m := (307 + 2)) (v := A.st 2) 1 C dX4_count_163 rfl rfl (by omega) (by decide) (R.2.2.2.2 2 (by decide)) ?_
      subst hQ_
      exact z_ret (Γ := [eO a 4 [.ref o.sa, .ref o.pa, .ref o.ha, .ref o.xa, .int o.pn, .int o.ru, .ref o.ta, .int o.ty, .int o.sp, .int o.fr, .int o.re, .int o.ca, .int o.os, .int o.od, .ref o.na], eIA E o.sa 311 f]) C dX4_count_164 rfl rfl (Nat.le_of_ble_eq_true rfl) (Nat.le_of_ble_eq_true rfl) ⟨by rw [gCountQ, if_neg (by decide), if_neg (by decide), if_neg (by decide), if_neg (by decide), if_neg (by decide), if_neg (by decide), if_neg (by decide), if_neg (by decide), if_neg (by decide), if_neg (by decide), if_neg (by decide), if_neg (by decide), if_neg (by decide), if_pos (by decide)]; rfl, rfl⟩
    · show eZ x E _ [eO a 4 [.ref o.sa, .ref o.pa, .ref o.ha, .ref o.xa, .int o.pn, .int o.ru, .ref o.ta, .int o.ty, .int o.sp, .int o.fr, .int o.re, .int o.ca, .int o.os, .int o.od, .ref o.na], eIA E o.sa 311 f, rs] 1 [some (.ref a), some (.int (nI 23))] [.int (nI 23)] 0 0
      refine z_tabIn (off := 150) 151 C dX4_count_1 (by decide) (by decide) (by decide) (by decide) ?_
      refine z_aload_n C dX4_count_151 rfl rfl ?_
      refine z_get eK4 0 0 C dX4_count_152 rfl rfl q1671 (eSame1 rfl) (by decide) rfl ?_
      refine z_sipush (v := 307) C dX4_count_155 (by decide) ?_
      refine z_iload_n C dX4_count_158 rfl rfl ?_
      refine z_iadd (w := nI (307 + 23)) C dX4_count_159 (nI_add 307 23) ?_
      refine z_bipush (v := 20) C dX4_count_160 (by decide) ?_
      refine z_isub (w := nI (307 + 3)) C dX4_count_162 (by decide) ?_
      refine z_iald (m := (307 + 3)) (v := A.st 3) 1 C dX4_count_163 rfl rfl (by omega) (by decide) (R.2.2.2.2 3 (by decide)) ?_
      subst hQ_
      exact z_ret (Γ := [eO a 4 [.ref o.sa, .ref o.pa, .ref o.ha, .ref o.xa, .int o.pn, .int o.ru, .ref o.ta, .int o.ty, .int o.sp, .int o.fr, .int o.re, .int o.ca, .int o.os, .int o.od, .ref o.na], eIA E o.sa 311 f]) C dX4_count_164 rfl rfl (Nat.le_of_ble_eq_true rfl) (Nat.le_of_ble_eq_true rfl) ⟨by rw [gCountQ, if_neg (by decide), if_neg (by decide), if_neg (by decide), if_neg (by decide), if_neg (by decide), if_neg (by decide), if_neg (by decide), if_neg (by decide), if_neg (by decide), if_neg (by decide), if_neg (by decide), if_neg (by decide), if_neg (by decide), if_pos (by decide)]; rfl, rfl⟩
  · obtain ⟨ho, e0, e1, e2, e3, e4, e5, e6, e7, e8, e9, e10, e11, e12, e13⟩ := eNe23 hw
    refine z_tabOut 165 C dX4_count_1 ho (by decide) ?_
    refine z_ldc C dX4_count_165 rfl q1727 ?_
    subst hQ_
    exact z_ret (Γ := [eO a 4 [.ref o.sa, .ref o.pa, .ref o.ha, .ref o.xa, .int o.pn, .int o.ru, .ref o.ta, .int o.ty, .int o.sp, .int o.fr, .int o.re, .int o.ca, .int o.os, .int o.od, .ref o.na], eIA E o.sa 311 f]) C dX4_count_167 rfl rfl (Nat.le_of_ble_eq_true rfl) (Nat.le_of_ble_eq_true rfl) ⟨by rw [gCountQ, if_neg e0, if_neg e1, if_neg e2, if_neg e3, if_neg e4, if_neg e5, if_neg e6, if_neg e7, if_neg e8, if_neg e9, if_neg e10, if_neg e11, if_neg e12, if_neg e13], rfl⟩

def mF0 : Nat → Int32 := (upd (upd (upd (upd (upd (upd (upd (upd (upd (upd (upd (upd (fun _ => 0) (192 + 6 * 0 + 1) 50) (192 + 6 * 0 + 2) 1) (192 + 6 * 1 + 1) 50) (192 + 6 * 1 + 2) 1) (192 + 6 * 2 + 1) 50) (192 + 6 * 2 + 2) 1) (192 + 6 * 3 + 1) 50) (192 + 6 * 3 + 2) 1) 307 4) 308 2) 309 3) 310 1)
theorem mF0_0 {k : Nat} (h : k < 192 ∨ (216 ≤ k ∧ k < 307)) : mF0 k = 0 := by
  unfold mF0
  rw [upd_ne_ (by omega), upd_ne_ (by omega), upd_ne_ (by omega), upd_ne_ (by omega), upd_ne_ (by omega), upd_ne_ (by omega), upd_ne_ (by omega), upd_ne_ (by omega), upd_ne_ (by omega), upd_ne_ (by omega), upd_ne_ (by omega), upd_ne_ (by omega)]
theorem Rep_0 : Rep mF0 (gNew gSt0) := by
  refine ⟨fun l x hx => ?_, fun k c hc j hj => ?_, fun k c hc => (by cases hc), fun j hj => ?_, fun j hj => ?_⟩
  · have hl : l < 4 := (List.getElem?_eq_some_iff.mp hx).1
    have h4 : l = 0 ∨ l = 1 ∨ l = 2 ∨ l = 3 := by omega
    have hj5 : ∀ j, 1 ≤ j → j < 6 → j = 1 ∨ j = 2 ∨ j = 3 ∨ j = 4 ∨ j = 5 := fun j h1 h2 => by omega
    rcases h4 with rfl | rfl | rfl | rfl
    all_goals (cases hx; refine ⟨by decide +kernel, fun j h1 h2 => ?_, fun p g hg => by cases hg⟩; rcases hj5 j h1 h2 with rfl | rfl | rfl | rfl | rfl <;> decide +kernel)
  · have hk : k < 6 := (List.getElem?_eq_some_iff.mp hc).1
    have hc0 : c = (0, 0, 0, 0, 0) := by
      have h6 : k = 0 ∨ k = 1 ∨ k = 2 ∨ k = 3 ∨ k = 4 ∨ k = 5 := by omega
      rcases h6 with rfl | rfl | rfl | rfl | rfl | rfl <;> (cases hc; rfl)
    rw [mF0_0 (by omega), hc0]
    have h5 : j = 0 ∨ j = 1 ∨ j = 2 ∨ j = 3 ∨ j = 4 := by omega
    rcases h5 with rfl | rfl | rfl | rfl | rfl <;> rfl
  · rw [mF0_0 (by omega)]
    rcases j11 hj with h9 | h9 | h9 | h9 | h9 | h9 | h9 | h9 | h9 | h9 | h9 <;> subst h9 <;> rfl
  · have h4 : j = 0 ∨ j = 1 ∨ j = 2 ∨ j = 3 := by omega
    rcases h4 with rfl | rfl | rfl | rfl <;> decide +kernel
theorem gWf_0 : gWf (gNew gSt0) := by
  refine ⟨fun x hx => ?_, fun c hc => ?_, ⟨by decide +kernel, by decide +kernel, by decide +kernel, by decide +kernel⟩, trivial⟩
  · have h : x = ((50, 1, 0, 0, 0), []) := by
      rcases List.mem_cons.mp hx with h | h; exact h
      rcases List.mem_cons.mp h with h | h; exact h
      rcases List.mem_cons.mp h with h | h; exact h
      exact List.mem_singleton.mp h
    rw [h]
    exact ⟨⟨by decide, by decide, by decide⟩, fun g hg => absurd hg List.not_mem_nil⟩
  · have h : c = (0, 0, 0, 0, 0) := by
      rcases List.mem_cons.mp hc with h | h; exact h
      rcases List.mem_cons.mp h with h | h; exact h
      rcases List.mem_cons.mp h with h | h; exact h
      rcases List.mem_cons.mp h with h | h; exact h
      rcases List.mem_cons.mp h with h | h; exact h
      exact List.mem_singleton.mp h
    rw [h]
    exact ⟨by decide, by decide⟩

set_option maxHeartbeats 4000000 in
theorem m_Minit {l : Launch} (hl : l.stackTraces = false) (E : eEn) (a : Nat) : eMet l E yX4_init (ws_ yX4_init cX4_init 2 none) ({ frames := 1, cells := 6, slots := 2240, locals := 20 }) [.ref a] [eO a 4 [.null, .null, .null, .null, .int 0, .int 0, .null, .int 0, .int 0, .int 0, .int 0, .int 0, .int 0, .int 0, .null]] (fun w Γ => w = none ∧ ∃ (o : Mo) (f h g1 g2 tf nf : Nat → Int32), Γ = [eMO a o, eIA E o.sa 311 f, eIA E o.pa 1244 h, eIA E o.ha 311 g1, eIA E o.xa 311 g2, eIA E o.ta 60 tf, eIA E o.na 3 nf] ∧ Rep f (gNew gSt0) ∧ o.pn = 0 ∧ o.ru = 0 ∧ o.ty = 0) := by
  refine eStart (cc := cX4_init) (nL := 2) (L := [some (.ref a), none]) hl (by decide) rfl (List.forall_mem_cons.mpr ⟨rfl, (fun _ h => absurd h List.not_mem_nil)⟩) (Nat.le_of_ble_eq_true rfl) ?_
  intro x rs C
  show eZ x E (eQ x E (fun w Γ => w = none ∧ ∃ (o : Mo) (f h g1 g2 tf nf : Nat → Int32), Γ = [eMO a o, eIA E o.sa 311 f, eIA E o.pa 1244 h, eIA E o.ha 311 g1, eIA E o.xa 311 g2, eIA E o.ta 60 tf, eIA E o.na 3 nf] ∧ Rep f (gNew gSt0) ∧ o.pn = 0 ∧ o.ru = 0 ∧ o.ty = 0) rs) [eO a 4 [.null, .null, .null, .null, .int 0, .int 0, .null, .int 0, .int 0, .int 0, .int 0, .int 0, .int 0, .int 0, .null], rs] 0 [some (.ref a), none] [] 0 0
  generalize hQ_ : eQ x E (fun w Γ => w = none ∧ ∃ (o : Mo) (f h g1 g2 tf nf : Nat → Int32), Γ = [eMO a o, eIA E o.sa 311 f, eIA E o.pa 1244 h, eIA E o.ha 311 g1, eIA E o.xa 311 g2, eIA E o.ta 60 tf, eIA E o.na 3 nf] ∧ Rep f (gNew gSt0) ∧ o.pn = 0 ∧ o.ru = 0 ∧ o.ty = 0) rs = Q_
  refine z_aload_n C dX4_init_0 rfl rfl ?_
  refine z_objInit C dX4_init_1 rfl rfl q1667 q99 q100 (Nat.le_of_ble_eq_true rfl) (Nat.le_of_ble_eq_true rfl) ?_
  refine z_aload_n C dX4_init_4 rfl rfl ?_
  refine z_sipush (v := 311) C dX4_init_5 (by decide) ?_
  refine z_newI (m := 311) C dX4_init_8 rfl (by decide) (Nat.le_of_ble_eq_true rfl) (Nat.le_of_ble_eq_true rfl) (fun a1 => ?_)
  show eZ x E _ [eO a 4 [.null, .null, .null, .null, .int 0, .int 0, .null, .int 0, .int 0, .int 0, .int 0, .int 0, .int 0, .int 0, .null], rs, eIA E a1 311 (fun _ => 0)] 10 [some (.ref a), none] [.ref a1, .ref a] 1 311
  refine z_putF eK4 0 0 (Γ2 := [eO a 4 [.ref a1, .null, .null, .null, .int 0, .int 0, .null, .int 0, .int 0, .int 0, .int 0, .int 0, .int 0, .int 0, .null], rs, eIA E a1 311 (fun _ => 0)]) C dX4_init_10 rfl rfl q1671 (eSame1 rfl) (by decide) rfl rfl rfl rfl rfl rfl (Nat.le_of_ble_eq_true rfl) rfl ?_
  refine z_aload_n C dX4_init_13 rfl rfl ?_
  refine z_sipush (v := 1244) C dX4_init_14 (by decide) ?_
  refine z_newI (m := 1244) C dX4_init_17 rfl (by decide) (Nat.le_of_ble_eq_true rfl) (Nat.le_of_ble_eq_true rfl) (fun a2 => ?_)
  show eZ x E _ [eO a 4 [.ref a1, .null, .null, .null, .int 0, .int 0, .null, .int 0, .int 0, .int 0, .int 0, .int 0, .int 0, .int 0, .null], rs, eIA E a1 311 (fun _ => 0), eIA E a2 1244 (fun _ => 0)] 19 [some (.ref a), none] [.ref a2, .ref a] 2 1555
  refine z_putF eK4 0 1 (Γ2 := [eO a 4 [.ref a1, .ref a2, .null, .null, .int 0, .int 0, .null, .int 0, .int 0, .int 0, .int 0, .int 0, .int 0, .int 0, .null], rs, eIA E a1 311 (fun _ => 0), eIA E a2 1244 (fun _ => 0)]) C dX4_init_19 rfl rfl q1672 (eSame1 rfl) (by decide) rfl rfl rfl rfl rfl rfl (Nat.le_of_ble_eq_true rfl) rfl ?_
  refine z_aload_n C dX4_init_22 rfl rfl ?_
  refine z_sipush (v := 311) C dX4_init_23 (by decide) ?_
  refine z_newI (m := 311) C dX4_init_26 rfl (by decide) (Nat.le_of_ble_eq_true rfl) (Nat.le_of_ble_eq_true rfl) (fun a3 => ?_)
  show eZ x E _ [eO a 4 [.ref a1, .ref a2, .null, .null, .int 0, .int 0, .null, .int 0, .int 0, .int 0, .int 0, .int 0, .int 0, .int 0, .null], rs, eIA E a1 311 (fun _ => 0), eIA E a2 1244 (fun _ => 0), eIA E a3 311 (fun _ => 0)] 28 [some (.ref a), none] [.ref a3, .ref a] 3 1866
  refine z_putF eK4 0 2 (Γ2 := [eO a 4 [.ref a1, .ref a2, .ref a3, .null, .int 0, .int 0, .null, .int 0, .int 0, .int 0, .int 0, .int 0, .int 0, .int 0, .null], rs, eIA E a1 311 (fun _ => 0), eIA E a2 1244 (fun _ => 0), eIA E a3 311 (fun _ => 0)]) C dX4_init_28 rfl rfl q1673 (eSame1 rfl) (by decide) rfl rfl rfl rfl rfl rfl (Nat.le_of_ble_eq_true rfl) rfl ?_
  refine z_aload_n C dX4_init_31 rfl rfl ?_
  refine z_sipush (v := 311) C dX4_init_32 (by decide) ?_
  refine z_newI (m := 311) C dX4_init_35 rfl (by decide) (Nat.le_of_ble_eq_true rfl) (Nat.le_of_ble_eq_true rfl) (fun a4 => ?_)
  show eZ x E _ [eO a 4 [.ref a1, .ref a2, .ref a3, .null, .int 0, .int 0, .null, .int 0, .int 0, .int 0, .int 0, .int 0, .int 0, .int 0, .null], rs, eIA E a1 311 (fun _ => 0), eIA E a2 1244 (fun _ => 0), eIA E a3 311 (fun _ => 0), eIA E a4 311 (fun _ => 0)] 37 [some (.ref a), none] [.ref a4, .ref a] 4 2177
  refine z_putF eK4 0 3 (Γ2 := [eO a 4 [.ref a1, .ref a2, .ref a3, .ref a4, .int 0, .int 0, .null, .int 0, .int 0, .int 0, .int 0, .int 0, .int 0, .int 0, .null], rs, eIA E a1 311 (fun _ => 0), eIA E a2 1244 (fun _ => 0), eIA E a3 311 (fun _ => 0), eIA E a4 311 (fun _ => 0)]) C dX4_init_37 rfl rfl q1674 (eSame1 rfl) (by decide) rfl rfl rfl rfl rfl rfl (Nat.le_of_ble_eq_true rfl) rfl ?_
  refine z_aload_n C dX4_init_40 rfl rfl ?_
  refine z_bipush (v := 60) C dX4_init_41 (by decide) ?_
  refine z_newI (m := 60) C dX4_init_43 rfl (by decide) (Nat.le_of_ble_eq_true rfl) (Nat.le_of_ble_eq_true rfl) (fun a5 => ?_)
  show eZ x E _ [eO a 4 [.ref a1, .ref a2, .ref a3, .ref a4, .int 0, .int 0, .null, .int 0, .int 0, .int 0, .int 0, .int 0, .int 0, .int 0, .null], rs, eIA E a1 311 (fun _ => 0), eIA E a2 1244 (fun _ => 0), eIA E a3 311 (fun _ => 0), eIA E a4 311 (fun _ => 0), eIA E a5 60 (fun _ => 0)] 45 [some (.ref a), none] [.ref a5, .ref a] 5 2237
  refine z_putF eK4 0 6 (Γ2 := [eO a 4 [.ref a1, .ref a2, .ref a3, .ref a4, .int 0, .int 0, .ref a5, .int 0, .int 0, .int 0, .int 0, .int 0, .int 0, .int 0, .null], rs, eIA E a1 311 (fun _ => 0), eIA E a2 1244 (fun _ => 0), eIA E a3 311 (fun _ => 0), eIA E a4 311 (fun _ => 0), eIA E a5 60 (fun _ => 0)]) C dX4_init_45 rfl rfl q1677 (eSame1 rfl) (by decide) rfl rfl rfl rfl rfl rfl (Nat.le_of_ble_eq_true rfl) rfl ?_
  refine z_aload_n C dX4_init_48 rfl rfl ?_
  refine z_iconst (v := 3) C dX4_init_49 (by decide) ?_
  refine z_newI (m := 3) C dX4_init_50 rfl (by decide) (Nat.le_of_ble_eq_true rfl) (Nat.le_of_ble_eq_true rfl) (fun a6 => ?_)
  show eZ x E _ [eO a 4 [.ref a1, .ref a2, .ref a3, .ref a4, .int 0, .int 0, .ref a5, .int 0, .int 0, .int 0, .int 0, .int 0, .int 0, .int 0, .null], rs, eIA E a1 311 (fun _ => 0), eIA E a2 1244 (fun _ => 0), eIA E a3 311 (fun _ => 0), eIA E a4 311 (fun _ => 0), eIA E a5 60 (fun _ => 0), eIA E a6 3 (fun _ => 0)] 52 [some (.ref a), none] [.ref a6, .ref a] 6 2240
  refine z_putF eK4 0 14 (Γ2 := [eO a 4 [.ref a1, .ref a2, .ref a3, .ref a4, .int 0, .int 0, .ref a5, .int 0, .int 0, .int 0, .int 0, .int 0, .int 0, .int 0, .ref a6], rs, eIA E a1 311 (fun _ => 0), eIA E a2 1244 (fun _ => 0), eIA E a3 311 (fun _ => 0), eIA E a4 311 (fun _ => 0), eIA E a5 60 (fun _ => 0), eIA E a6 3 (fun _ => 0)]) C dX4_init_52 rfl rfl q1685 (eSame1 rfl) (by decide) rfl rfl rfl rfl rfl rfl (Nat.le_of_ble_eq_true rfl) rfl ?_
  refine z_iconst (v := 0) C dX4_init_55 (by decide) ?_
  refine z_istore_n (L2 := [some (.ref a), some (.int 0)]) C dX4_init_56 rfl (Nat.le_of_ble_eq_true rfl) rfl ?_
  show eZ x E _ [eO a 4 [.ref a1, .ref a2, .ref a3, .ref a4, .int 0, .int 0, .ref a5, .int 0, .int 0, .int 0, .int 0, .int 0, .int 0, .int 0, .ref a6], rs, eIA E a1 311 (fun _ => 0), eIA E a2 1244 (fun _ => 0), eIA E a3 311 (fun _ => 0), eIA E a4 311 (fun _ => 0), eIA E a5 60 (fun _ => 0), eIA E a6 3 (fun _ => 0)] 57 [some (.ref a), some (.int (nI 0))] [] 6 2240
  refine z_iload_n C dX4_init_57 rfl rfl ?_
  refine z_iconst (v := 4) C dX4_init_58 (by decide) ?_
  refine z_icmp_ge 93 C dX4_init_59 (by decide) (fun h_ => absurd h_ (by decide)) (fun h_ => ?_)
  refine z_aload_n C dX4_init_62 rfl rfl ?_
  refine z_get eK4 0 0 C dX4_init_63 rfl rfl q1671 (eSame1 rfl) (by decide) rfl ?_
  refine z_iload_n C dX4_init_66 rfl rfl ?_
  refine z_callS (As := [.int (nI 0)]) (rest := [.ref a1]) (Δ := [eO a 4 [.ref a1, .ref a2, .ref a3, .ref a4, .int 0, .int 0, .ref a5, .int 0, .int 0, .int 0, .int 0, .int 0, .int 0, .int 0, .ref a6], rs, eIA E a1 311 (fun _ => 0), eIA E a2 1244 (fun _ => 0), eIA E a3 311 (fun _ => 0), eIA E a4 311 (fun _ => 0), eIA E a5 60 (fun _ => 0), eIA E a6 3 (fun _ => 0)]) [] [0, 1, 2, 3, 4, 5, 6, 7] 1 (m_MlaneAt hl E 0) C dX4_init_67 rfl rfl rfl q1668 q1669 q67 q1670 (by decide +kernel) rfl (ePm 8 rfl (by decide +kernel)) rfl rfl ⟨Nat.le_of_ble_eq_true rfl, Nat.le_of_ble_eq_true rfl⟩ (Nat.le_trans (eSm rfl eS0) (Nat.le_of_ble_eq_true rfl)) ⟨Nat.le_of_ble_eq_true rfl, Nat.le_of_ble_eq_true rfl⟩ (fun v_ Γ_ hp_ => ?_)
  obtain ⟨rfl, rfl⟩ := hp_
  show eZ x E _ [eO a 4 [.ref a1, .ref a2, .ref a3, .ref a4, .int 0, .int 0, .ref a5, .int 0, .int 0, .int 0, .int 0, .int 0, .int 0, .int 0, .ref a6], rs, eIA E a1 311 (fun _ => 0), eIA E a2 1244 (fun _ => 0), eIA E a3 311 (fun _ => 0), eIA E a4 311 (fun _ => 0), eIA E a5 60 (fun _ => 0), eIA E a6 3 (fun _ => 0)] 70 [some (.ref a), some (.int (nI 0))] [.int (nI (192 + 6 * 0)), .ref a1] 6 2240
  refine z_iconst (v := 1) C dX4_init_70 (by decide) ?_
  refine z_iadd (w := nI (192 + 6 * 0 + 1)) C dX4_init_71 (nI_add (192 + 6 * 0) 1) ?_
  refine z_bipush (v := 50) C dX4_init_72 (by decide) ?_
  refine z_iast (m := (192 + 6 * 0 + 1)) (Γ2 := [eO a 4 [.ref a1, .ref a2, .ref a3, .ref a4, .int 0, .int 0, .ref a5, .int 0, .int 0, .int 0, .int 0, .int 0, .int 0, .int 0, .ref a6], rs, eIA E a1 311 (upd (fun _ => 0) (192 + 6 * 0 + 1) 50), eIA E a2 1244 (fun _ => 0), eIA E a3 311 (fun _ => 0), eIA E a4 311 (fun _ => 0), eIA E a5 60 (fun _ => 0), eIA E a6 3 (fun _ => 0)]) 2 C dX4_init_74 rfl rfl (by omega) (by decide) rfl ?_
  refine z_aload_n C dX4_init_75 rfl rfl ?_
  refine z_get eK4 0 0 C dX4_init_76 rfl rfl q1671 (eSame1 rfl) (by decide) rfl ?_
  refine z_iload_n C dX4_init_79 rfl rfl ?_
  refine z_callS (As := [.int (nI 0)]) (rest := [.ref a1]) (Δ := [eO a 4 [.ref a1, .ref a2, .ref a3, .ref a4, .int 0, .int 0, .ref a5, .int 0, .int 0, .int 0, .int 0, .int 0, .int 0, .int 0, .ref a6], rs, eIA E a1 311 (upd (fun _ => 0) (192 + 6 * 0 + 1) 50), eIA E a2 1244 (fun _ => 0), eIA E a3 311 (fun _ => 0), eIA E a4 311 (fun _ => 0), eIA E a5 60 (fun _ => 0), eIA E a6 3 (fun _ => 0)]) [] [0, 1, 2, 3, 4, 5, 6, 7] 1 (m_MlaneAt hl E 0) C dX4_init_80 rfl rfl rfl q1668 q1669 q67 q1670 (by decide +kernel) rfl (ePm 8 rfl (by decide +kernel)) rfl rfl ⟨Nat.le_of_ble_eq_true rfl, Nat.le_of_ble_eq_true rfl⟩ (Nat.le_trans (eSm rfl eS0) (Nat.le_of_ble_eq_true rfl)) ⟨Nat.le_of_ble_eq_true rfl, Nat.le_of_ble_eq_true rfl⟩ (fun v_ Γ_ hp_ => ?_)
  obtain ⟨rfl, rfl⟩ := hp_
  show eZ x E _ [eO a 4 [.ref a1, .ref a2, .ref a3, .ref a4, .int 0, .int 0, .ref a5, .int 0, .int 0, .int 0, .int 0, .int 0, .int 0, .int 0, .ref a6], rs, eIA E a1 311 (upd (fun _ => 0) (192 + 6 * 0 + 1) 50), eIA E a2 1244 (fun _ => 0), eIA E a3 311 (fun _ => 0), eIA E a4 311 (fun _ => 0), eIA E a5 60 (fun _ => 0), eIA E a6 3 (fun _ => 0)] 83 [some (.ref a), some (.int (nI 0))] [.int (nI (192 + 6 * 0)), .ref a1] 6 2240
  refine z_iconst (v := 2) C dX4_init_83 (by decide) ?_
  refine z_iadd (w := nI (192 + 6 * 0 + 2)) C dX4_init_84 (nI_add (192 + 6 * 0) 2) ?_
  refine z_iconst (v := 1) C dX4_init_85 (by decide) ?_
  refine z_iast (m := (192 + 6 * 0 + 2)) (Γ2 := [eO a 4 [.ref a1, .ref a2, .ref a3, .ref a4, .int 0, .int 0, .ref a5, .int 0, .int 0, .int 0, .int 0, .int 0, .int 0, .int 0, .ref a6], rs, eIA E a1 311 (upd (upd (fun _ => 0) (192 + 6 * 0 + 1) 50) (192 + 6 * 0 + 2) 1), eIA E a2 1244 (fun _ => 0), eIA E a3 311 (fun _ => 0), eIA E a4 311 (fun _ => 0), eIA E a5 60 (fun _ => 0), eIA E a6 3 (fun _ => 0)]) 2 C dX4_init_86 rfl rfl (by omega) (by decide) rfl ?_
  refine z_iinc (v := nI (0 + 1)) (L2 := [some (.ref a), some (.int (nI (0 + 1)))]) C dX4_init_87 rfl (nI_1 0) rfl ?_
  refine z_goto 57 C dX4_init_90 (by decide) ?_
  show eZ x E _ [eO a 4 [.ref a1, .ref a2, .ref a3, .ref a4, .int 0, .int 0, .ref a5, .int 0, .int 0, .int 0, .int 0, .int 0, .int 0, .int 0, .ref a6], rs, eIA E a1 311 (upd (upd (fun _ => 0) (192 + 6 * 0 + 1) 50) (192 + 6 * 0 + 2) 1), eIA E a2 1244 (fun _ => 0), eIA E a3 311 (fun _ => 0), eIA E a4 311 (fun _ => 0), eIA E a5 60 (fun _ => 0), eIA E a6 3 (fun _ => 0)] 57 [some (.ref a), some (.int (nI 1))] [] 6 2240
  refine z_iload_n C dX4_init_57 rfl rfl ?_
  refine z_iconst (v := 4) C dX4_init_58 (by decide) ?_
  refine z_icmp_ge 93 C dX4_init_59 (by decide) (fun h_ => absurd h_ (by decide)) (fun h_ => ?_)
  refine z_aload_n C dX4_init_62 rfl rfl ?_
  refine z_get eK4 0 0 C dX4_init_63 rfl rfl q1671 (eSame1 rfl) (by decide) rfl ?_
  refine z_iload_n C dX4_init_66 rfl rfl ?_
  refine z_callS (As := [.int (nI 1)]) (rest := [.ref a1]) (Δ := [eO a 4 [.ref a1, .ref a2, .ref a3, .ref a4, .int 0, .int 0, .ref a5, .int 0, .int 0, .int 0, .int 0, .int 0, .int 0, .int 0, .ref a6], rs, eIA E a1 311 (upd (upd (fun _ => 0) (192 + 6 * 0 + 1) 50) (192 + 6 * 0 + 2) 1), eIA E a2 1244 (fun _ => 0), eIA E a3 311 (fun _ => 0), eIA E a4 311 (fun _ => 0), eIA E a5 60 (fun _ => 0), eIA E a6 3 (fun _ => 0)]) [] [0, 1, 2, 3, 4, 5, 6, 7] 1 (m_MlaneAt hl E 1) C dX4_init_67 rfl rfl rfl q1668 q1669 q67 q1670 (by decide +kernel) rfl (ePm 8 rfl (by decide +kernel)) rfl rfl ⟨Nat.le_of_ble_eq_true rfl, Nat.le_of_ble_eq_true rfl⟩ (Nat.le_trans (eSm rfl eS0) (Nat.le_of_ble_eq_true rfl)) ⟨Nat.le_of_ble_eq_true rfl, Nat.le_of_ble_eq_true rfl⟩ (fun v_ Γ_ hp_ => ?_)
  obtain ⟨rfl, rfl⟩ := hp_
  show eZ x E _ [eO a 4 [.ref a1, .ref a2, .ref a3, .ref a4, .int 0, .int 0, .ref a5, .int 0, .int 0, .int 0, .int 0, .int 0, .int 0, .int 0, .ref a6], rs, eIA E a1 311 (upd (upd (fun _ => 0) (192 + 6 * 0 + 1) 50) (192 + 6 * 0 + 2) 1), eIA E a2 1244 (fun _ => 0), eIA E a3 311 (fun _ => 0), eIA E a4 311 (fun _ => 0), eIA E a5 60 (fun _ => 0), eIA E a6 3 (fun _ => 0)] 70 [some (.ref a), some (.int (nI 1))] [.int (nI (192 + 6 * 1)), .ref a1] 6 2240
  refine z_iconst (v := 1) C dX4_init_70 (by decide) ?_
  refine z_iadd (w := nI (192 + 6 * 1 + 1)) C dX4_init_71 (nI_add (192 + 6 * 1) 1) ?_
  refine z_bipush (v := 50) C dX4_init_72 (by decide) ?_
  refine z_iast (m := (192 + 6 * 1 + 1)) (Γ2 := [eO a 4 [.ref a1, .ref a2, .ref a3, .ref a4, .int 0, .int 0, .ref a5, .int 0, .int 0, .int 0, .int 0, .int 0, .int 0, .int 0, .ref a6], rs, eIA E a1 311 (upd (upd (upd (fun _ => 0) (192 + 6 * 0 + 1) 50) (192 + 6 * 0 + 2) 1) (192 + 6 * 1 + 1) 50), eIA E a2 1244 (fun _ => 0), eIA E a3 311 (fun _ => 0), eIA E a4 311 (fun _ => 0), eIA E a5 60 (fun _ => 0), eIA E a6 3 (fun _ => 0)]) 2 C dX4_init_74 rfl rfl (by omega) (by decide) rfl ?_
  refine z_aload_n C dX4_init_75 rfl rfl ?_
  refine z_get eK4 0 0 C dX4_init_76 rfl rfl q1671 (eSame1 rfl) (by decide) rfl ?_
  refine z_iload_n C dX4_init_79 rfl rfl ?_
  refine z_callS (As := [.int (nI 1)]) (rest := [.ref a1]) (Δ := [eO a 4 [.ref a1, .ref a2, .ref a3, .ref a4, .int 0, .int 0, .ref a5, .int 0, .int 0, .int 0, .int 0, .int 0, .int 0, .int 0, .ref a6], rs, eIA E a1 311 (upd (upd (upd (fun _ => 0) (192 + 6 * 0 + 1) 50) (192 + 6 * 0 + 2) 1) (192 + 6 * 1 + 1) 50), eIA E a2 1244 (fun _ => 0), eIA E a3 311 (fun _ => 0), eIA E a4 311 (fun _ => 0), eIA E a5 60 (fun _ => 0), eIA E a6 3 (fun _ => 0)]) [] [0, 1, 2, 3, 4, 5, 6, 7] 1 (m_MlaneAt hl E 1) C dX4_init_80 rfl rfl rfl q1668 q1669 q67 q1670 (by decide +kernel) rfl (ePm 8 rfl (by decide +kernel)) rfl rfl ⟨Nat.le_of_ble_eq_true rfl, Nat.le_of_ble_eq_true rfl⟩ (Nat.le_trans (eSm rfl eS0) (Nat.le_of_ble_eq_true rfl)) ⟨Nat.le_of_ble_eq_true rfl, Nat.le_of_ble_eq_true rfl⟩ (fun v_ Γ_ hp_ => ?_)
  obtain ⟨rfl, rfl⟩ := hp_
  show eZ x E _ [eO a 4 [.ref a1, .ref a2, .ref a3, .ref a4, .int 0, .int 0, .ref a5, .int 0, .int 0, .int 0, .int 0, .int 0, .int 0, .int 0, .ref a6], rs, eIA E a1 311 (upd (upd (upd (fun _ => 0) (192 + 6 * 0 + 1) 50) (192 + 6 * 0 + 2) 1) (192 + 6 * 1 + 1) 50), eIA E a2 1244 (fun _ => 0), eIA E a3 311 (fun _ => 0), eIA E a4 311 (fun _ => 0), eIA E a5 60 (fun _ => 0), eIA E a6 3 (fun _ => 0)] 83 [some (.ref a), some (.int (nI 1))] [.int (nI (192 + 6 * 1)), .ref a1] 6 2240
  refine z_iconst (v := 2) C dX4_init_83 (by decide) ?_
  refine z_iadd (w := nI (192 + 6 * 1 + 2)) C dX4_init_84 (nI_add (192 + 6 * 1) 2) ?_
  refine z_iconst (v := 1) C dX4_init_85 (by decide) ?_
  refine z_iast (m := (192 + 6 * 1 + 2)) (Γ2 := [eO a 4 [.ref a1, .ref a2, .ref a3, .ref a4, .int 0, .int 0, .ref a5, .int 0, .int 0, .int 0, .int 0, .int 0, .int 0, .int 0, .ref a6], rs, eIA E a1 311 (upd (upd (upd (upd (fun _ => 0) (192 + 6 * 0 + 1) 50) (192 + 6 * 0 + 2) 1) (192 + 6 * 1 + 1) 50) (192 + 6 * 1 + 2) 1), eIA E a2 1244 (fun _ => 0), eIA E a3 311 (fun _ => 0), eIA E a4 311 (fun _ => 0), eIA E a5 60 (fun _ => 0), eIA E a6 3 (fun _ => 0)]) 2 C dX4_init_86 rfl rfl (by omega) (by decide) rfl ?_
  refine z_iinc (v := nI (1 + 1)) (L2 := [some (.ref a), some (.int (nI (1 + 1)))]) C dX4_init_87 rfl (nI_1 1) rfl ?_
  refine z_goto 57 C dX4_init_90 (by decide) ?_
  show eZ x E _ [eO a 4 [.ref a1, .ref a2, .ref a3, .ref a4, .int 0, .int 0, .ref a5, .int 0, .int 0, .int 0, .int 0, .int 0, .int 0, .int 0, .ref a6], rs, eIA E a1 311 (upd (upd (upd (upd (fun _ => 0) (192 + 6 * 0 + 1) 50) (192 + 6 * 0 + 2) 1) (192 + 6 * 1 + 1) 50) (192 + 6 * 1 + 2) 1), eIA E a2 1244 (fun _ => 0), eIA E a3 311 (fun _ => 0), eIA E a4 311 (fun _ => 0), eIA E a5 60 (fun _ => 0), eIA E a6 3 (fun _ => 0)] 57 [some (.ref a), some (.int (nI 2))] [] 6 2240
  refine z_iload_n C dX4_init_57 rfl rfl ?_
  refine z_iconst (v := 4) C dX4_init_58 (by decide) ?_
  refine z_icmp_ge 93 C dX4_init_59 (by decide) (fun h_ => absurd h_ (by decide)) (fun h_ => ?_)
  refine z_aload_n C dX4_init_62 rfl rfl ?_
  refine z_get eK4 0 0 C dX4_init_63 rfl rfl q1671 (eSame1 rfl) (by decide) rfl ?_
  refine z_iload_n C dX4_init_66 rfl rfl ?_
  refine z_callS (As := [.int (nI 2)]) (rest := [.ref a1]) (Δ := [eO a 4 [.ref a1, .ref a2, .ref a3, .ref a4, .int 0, .int 0, .ref a5, .int 0, .int 0, .int 0, .int 0, .int 0, .int 0, .int 0, .ref a6], rs, eIA E a1 311 (upd (upd (upd (upd (fun _ => 0) (192 + 6 * 0 + 1) 50) (192 + 6 * 0 + 2) 1) (192 + 6 * 1 + 1) 50) (192 + 6 * 1 + 2) 1), eIA E a2 1244 (fun _ => 0), eIA E a3 311 (fun _ => 0), eIA E a4 311 (fun _ => 0), eIA E a5 60 (fun _ => 0), eIA E a6 3 (fun _ => 0)]) [] [0, 1, 2, 3, 4, 5, 6, 7] 1 (m_MlaneAt hl E 2) C dX4_init_67 rfl rfl rfl q1668 q1669 q67 q1670 (by decide +kernel) rfl (ePm 8 rfl (by decide +kernel)) rfl rfl ⟨Nat.le_of_ble_eq_true rfl, Nat.le_of_ble_eq_true rfl⟩ (Nat.le_trans (eSm rfl eS0) (Nat.le_of_ble_eq_true rfl)) ⟨Nat.le_of_ble_eq_true rfl, Nat.le_of_ble_eq_true rfl⟩ (fun v_ Γ_ hp_ => ?_)
  obtain ⟨rfl, rfl⟩ := hp_
  show eZ x E _ [eO a 4 [.ref a1, .ref a2, .ref a3, .ref a4, .int 0, .int 0, .ref a5, .int 0, .int 0, .int 0, .int 0, .int 0, .int 0, .int 0, .ref a6], rs, eIA E a1 311 (upd (upd (upd (upd (fun _ => 0) (192 + 6 * 0 + 1) 50) (192 + 6 * 0 + 2) 1) (192 + 6 * 1 + 1) 50) (192 + 6 * 1 + 2) 1), eIA E a2 1244 (fun _ => 0), eIA E a3 311 (fun _ => 0), eIA E a4 311 (fun _ => 0), eIA E a5 60 (fun _ => 0), eIA E a6 3 (fun _ => 0)] 70 [some (.ref a), some (.int (nI 2))] [.int (nI (192 + 6 * 2)), .ref a1] 6 2240
  refine z_iconst (v := 1) C dX4_init_70 (by decide) ?_
  refine z_iadd (w := nI (192 + 6 * 2 + 1)) C dX4_init_71 (nI_add (192 + 6 * 2) 1) ?_
  refine z_bipush (v := 50) C dX4_init_72 (by decide) ?_
  refine z_iast (m := (192 + 6 * 2 + 1)) (Γ2 := [eO a 4 [.ref a1, .ref a2, .ref a3, .ref a4, .int 0, .int 0, .ref a5, .int 0, .int 0, .int 0, .int 0, .int 0, .int 0, .int 0, .ref a6], rs, eIA E a1 311 (upd (upd (upd (upd (upd (fun _ => 0) (192 + 6 * 0 + 1) 50) (192 + 6 * 0 + 2) 1) (192 + 6 * 1 + 1) 50) (192 + 6 * 1 + 2) 1) (192 + 6 * 2 + 1) 50), eIA E a2 1244 (fun _ => 0), eIA E a3 311 (fun _ => 0), eIA E a4 311 (fun _ => 0), eIA E a5 60 (fun _ => 0), eIA E a6 3 (fun _ => 0)]) 2 C dX4_init_74 rfl rfl (by omega) (by decide) rfl ?_
  refine z_aload_n C dX4_init_75 rfl rfl ?_
  refine z_get eK4 0 0 C dX4_init_76 rfl rfl q1671 (eSame1 rfl) (by decide) rfl ?_
  refine z_iload_n C dX4_init_79 rfl rfl ?_
  refine z_callS (As := [.int (nI 2)]) (rest := [.ref a1]) (Δ := [eO a 4 [.ref a1, .ref a2, .ref a3, .ref a4, .int 0, .int 0, .ref a5, .int 0, .int 0, .int 0, .int 0, .int 0, .int 0, .int 0, .ref a6], rs, eIA E a1 311 (upd (upd (upd (upd (upd (fun _ => 0) (192 + 6 * 0 + 1) 50) (192 + 6 * 0 + 2) 1) (192 + 6 * 1 + 1) 50) (192 + 6 * 1 + 2) 1) (192 + 6 * 2 + 1) 50), eIA E a2 1244 (fun _ => 0), eIA E a3 311 (fun _ => 0), eIA E a4 311 (fun _ => 0), eIA E a5 60 (fun _ => 0), eIA E a6 3 (fun _ => 0)]) [] [0, 1, 2, 3, 4, 5, 6, 7] 1 (m_MlaneAt hl E 2) C dX4_init_80 rfl rfl rfl q1668 q1669 q67 q1670 (by decide +kernel) rfl (ePm 8 rfl (by decide +kernel)) rfl rfl ⟨Nat.le_of_ble_eq_true rfl, Nat.le_of_ble_eq_true rfl⟩ (Nat.le_trans (eSm rfl eS0) (Nat.le_of_ble_eq_true rfl)) ⟨Nat.le_of_ble_eq_true rfl, Nat.le_of_ble_eq_true rfl⟩ (fun v_ Γ_ hp_ => ?_)
  obtain ⟨rfl, rfl⟩ := hp_
  show eZ x E _ [eO a 4 [.ref a1, .ref a2, .ref a3, .ref a4, .int 0, .int 0, .ref a5, .int 0, .int 0, .int 0, .int 0, .int 0, .int 0, .int 0, .ref a6], rs, eIA E a1 311 (upd (upd (upd (upd (upd (fun _ => 0) (192 + 6 * 0 + 1) 50) (192 + 6 * 0 + 2) 1) (192 + 6 * 1 + 1) 50) (192 + 6 * 1 + 2) 1) (192 + 6 * 2 + 1) 50), eIA E a2 1244 (fun _ => 0), eIA E a3 311 (fun _ => 0), eIA E a4 311 (fun _ => 0), eIA E a5 60 (fun _ => 0), eIA E a6 3 (fun _ => 0)] 83 [some (.ref a), some (.int (nI 2))] [.int (nI (192 + 6 * 2)), .ref a1] 6 2240
  refine z_iconst (v := 2) C dX4_init_83 (by decide) ?_
  refine z_iadd (w := nI (192 + 6 * 2 + 2)) C dX4_init_84 (nI_add (192 + 6 * 2) 2) ?_
  refine z_iconst (v := 1) C dX4_init_85 (by decide) ?_
  refine z_iast (m := (192 + 6 * 2 + 2)) (Γ2 := [eO a 4 [.ref a1, .ref a2, .ref a3, .ref a4, .int 0, .int 0, .ref a5, .int 0, .int 0, .int 0, .int 0, .int 0, .int 0, .int 0, .ref a6], rs, eIA E a1 311 (upd (upd (upd (upd (upd (upd (fun _ => 0) (192 + 6 * 0 + 1) 50) (192 + 6 * 0 + 2) 1) (192 + 6 * 1 + 1) 50) (192 + 6 * 1 + 2) 1) (192 + 6 * 2 + 1) 50) (192 + 6 * 2 + 2) 1), eIA E a2 1244 (fun _ => 0), eIA E a3 311 (fun _ => 0), eIA E a4 311 (fun _ => 0), eIA E a5 60 (fun _ => 0), eIA E a6 3 (fun _ => 0)]) 2 C dX4_init_86 rfl rfl (by omega) (by decide) rfl ?_
  refine z_iinc (v := nI (2 + 1)) (L2 := [some (.ref a), some (.int (nI (2 + 1)))]) C dX4_init_87 rfl (nI_1 2) rfl ?_
  refine z_goto 57 C dX4_init_90 (by decide) ?_
  show eZ x E _ [eO a 4 [.ref a1, .ref a2, .ref a3, .ref a4, .int 0, .int 0, .ref a5, .int 0, .int 0, .int 0, .int 0, .int 0, .int 0, .int 0, .ref a6], rs, eIA E a1 311 (upd (upd (upd (upd (upd (upd (fun _ => 0) (192 + 6 * 0 + 1) 50) (192 + 6 * 0 + 2) 1) (192 + 6 * 1 + 1) 50) (192 + 6 * 1 + 2) 1) (192 + 6 * 2 + 1) 50) (192 + 6 * 2 + 2) 1), eIA E a2 1244 (fun _ => 0), eIA E a3 311 (fun _ => 0), eIA E a4 311 (fun _ => 0), eIA E a5 60 (fun _ => 0), eIA E a6 3 (fun _ => 0)] 57 [some (.ref a), some (.int (nI 3))] [] 6 2240
  refine z_iload_n C dX4_init_57 rfl rfl ?_
  refine z_iconst (v := 4) C dX4_init_58 (by decide) ?_
  refine z_icmp_ge 93 C dX4_init_59 (by decide) (fun h_ => absurd h_ (by decide)) (fun h_ => ?_)
  refine z_aload_n C dX4_init_62 rfl rfl ?_
  refine z_get eK4 0 0 C dX4_init_63 rfl rfl q1671 (eSame1 rfl) (by decide) rfl ?_
  refine z_iload_n C dX4_init_66 rfl rfl ?_
  refine z_callS (As := [.int (nI 3)]) (rest := [.ref a1]) (Δ := [eO a 4 [.ref a1, .ref a2, .ref a3, .ref a4, .int 0, .int 0, .ref a5, .int 0, .int 0, .int 0, .int 0, .int 0, .int 0, .int 0, .ref a6], rs, eIA E a1 311 (upd (upd (upd (upd (upd (upd (fun _ => 0) (192 + 6 * 0 + 1) 50) (192 + 6 * 0 + 2) 1) (192 + 6 * 1 + 1) 50) (192 + 6 * 1 + 2) 1) (192 + 6 * 2 + 1) 50) (192 + 6 * 2 + 2) 1), eIA E a2 1244 (fun _ => 0), eIA E a3 311 (fun _ => 0), eIA E a4 311 (fun _ => 0), eIA E a5 60 (fun _ => 0), eIA E a6 3 (fun _ => 0)]) [] [0, 1, 2, 3, 4, 5, 6, 7] 1 (m_MlaneAt hl E 3) C dX4_init_67 rfl rfl rfl q1668 q1669 q67 q1670 (by decide +kernel) rfl (ePm 8 rfl (by decide +kernel)) rfl rfl ⟨Nat.le_of_ble_eq_true rfl, Nat.le_of_ble_eq_true rfl⟩ (Nat.le_trans (eSm rfl eS0) (Nat.le_of_ble_eq_true rfl)) ⟨Nat.le_of_ble_eq_true rfl, Nat.le_of_ble_eq_true rfl⟩ (fun v_ Γ_ hp_ => ?_)
  obtain ⟨rfl, rfl⟩ := hp_
  show eZ x E _ [eO a 4 [.ref a1, .ref a2, .ref a3, .ref a4, .int 0, .int 0, .ref a5, .int 0, .int 0, .int 0, .int 0, .int 0, .int 0, .int 0, .ref a6], rs, eIA E a1 311 (upd (upd (upd (upd (upd (upd (fun _ => 0) (192 + 6 * 0 + 1) 50) (192 + 6 * 0 + 2) 1) (192 + 6 * 1 + 1) 50) (192 + 6 * 1 + 2) 1) (192 + 6 * 2 + 1) 50) (192 + 6 * 2 + 2) 1), eIA E a2 1244 (fun _ => 0), eIA E a3 311 (fun _ => 0), eIA E a4 311 (fun _ => 0), eIA E a5 60 (fun _ => 0), eIA E a6 3 (fun _ => 0)] 70 [some (.ref a), some (.int (nI 3))] [.int (nI (192 + 6 * 3)), .ref a1] 6 2240
  refine z_iconst (v := 1) C dX4_init_70 (by decide) ?_
  refine z_iadd (w := nI (192 + 6 * 3 + 1)) C dX4_init_71 (nI_add (192 + 6 * 3) 1) ?_
  refine z_bipush (v := 50) C dX4_init_72 (by decide) ?_
  refine z_iast (m := (192 + 6 * 3 + 1)) (Γ2 := [eO a 4 [.ref a1, .ref a2, .ref a3, .ref a4, .int 0, .int 0, .ref a5, .int 0, .int 0, .int 0, .int 0, .int 0, .int 0, .int 0, .ref a6], rs, eIA E a1 311 (upd (upd (upd (upd (upd (upd (upd (fun _ => 0) (192 + 6 * 0 + 1) 50) (192 + 6 * 0 + 2) 1) (192 + 6 * 1 + 1) 50) (192 + 6 * 1 + 2) 1) (192 + 6 * 2 + 1) 50) (192 + 6 * 2 + 2) 1) (192 + 6 * 3 + 1) 50), eIA E a2 1244 (fun _ => 0), eIA E a3 311 (fun _ => 0), eIA E a4 311 (fun _ => 0), eIA E a5 60 (fun _ => 0), eIA E a6 3 (fun _ => 0)]) 2 C dX4_init_74 rfl rfl (by omega) (by decide) rfl ?_
  refine z_aload_n C dX4_init_75 rfl rfl ?_
  refine z_get eK4 0 0 C dX4_init_76 rfl rfl q1671 (eSame1 rfl) (by decide) rfl ?_
  refine z_iload_n C dX4_init_79 rfl rfl ?_
  refine z_callS (As := [.int (nI 3)]) (rest := [.ref a1]) (Δ := [eO a 4 [.ref a1, .ref a2, .ref a3, .ref a4, .int 0, .int 0, .ref a5, .int 0, .int 0, .int 0, .int 0, .int 0, .int 0, .int 0, .ref a6], rs, eIA E a1 311 (upd (upd (upd (upd (upd (upd (upd (fun _ => 0) (192 + 6 * 0 + 1) 50) (192 + 6 * 0 + 2) 1) (192 + 6 * 1 + 1) 50) (192 + 6 * 1 + 2) 1) (192 + 6 * 2 + 1) 50) (192 + 6 * 2 + 2) 1) (192 + 6 * 3 + 1) 50), eIA E a2 1244 (fun _ => 0), eIA E a3 311 (fun _ => 0), eIA E a4 311 (fun _ => 0), eIA E a5 60 (fun _ => 0), eIA E a6 3 (fun _ => 0)]) [] [0, 1, 2, 3, 4, 5, 6, 7] 1 (m_MlaneAt hl E 3) C dX4_init_80 rfl rfl rfl q1668 q1669 q67 q1670 (by decide +kernel) rfl (ePm 8 rfl (by decide +kernel)) rfl rfl ⟨Nat.le_of_ble_eq_true rfl, Nat.le_of_ble_eq_true rfl⟩ (Nat.le_trans (eSm rfl eS0) (Nat.le_of_ble_eq_true rfl)) ⟨Nat.le_of_ble_eq_true rfl, Nat.le_of_ble_eq_true rfl⟩ (fun v_ Γ_ hp_ => ?_)
  obtain ⟨rfl, rfl⟩ := hp_
  show eZ x E _ [eO a 4 [.ref a1, .ref a2, .ref a3, .ref a4, .int 0, .int 0, .ref a5, .int 0, .int 0, .int 0, .int 0, .int 0, .int 0, .int 0, .ref a6], rs, eIA E a1 311 (upd (upd (upd (upd (upd (upd (upd (fun _ => 0) (192 + 6 * 0 + 1) 50) (192 + 6 * 0 + 2) 1) (192 + 6 * 1 + 1) 50) (192 + 6 * 1 + 2) 1) (192 + 6 * 2 + 1) 50) (192 + 6 * 2 + 2) 1) (192 + 6 * 3 + 1) 50), eIA E a2 1244 (fun _ => 0), eIA E a3 311 (fun _ => 0), eIA E a4 311 (fun _ => 0), eIA E a5 60 (fun _ => 0), eIA E a6 3 (fun _ => 0)] 83 [some (.ref a), some (.int (nI 3))] [.int (nI (192 + 6 * 3)), .ref a1] 6 2240
  refine z_iconst (v := 2) C dX4_init_83 (by decide) ?_
  refine z_iadd (w := nI (192 + 6 * 3 + 2)) C dX4_init_84 (nI_add (192 + 6 * 3) 2) ?_
  refine z_iconst (v := 1) C dX4_init_85 (by decide) ?_
  refine z_iast (m := (192 + 6 * 3 + 2)) (Γ2 := [eO a 4 [.ref a1, .ref a2, .ref a3, .ref a4, .int 0, .int 0, .ref a5, .int 0, .int 0, .int 0, .int 0, .int 0, .int 0, .int 0, .ref a6], rs, eIA E a1 311 (upd (upd (upd (upd (upd (upd (upd (upd (fun _ => 0) (192 + 6 * 0 + 1) 50) (192 + 6 * 0 + 2) 1) (192 + 6 * 1 + 1) 50) (192 + 6 * 1 + 2) 1) (192 + 6 * 2 + 1) 50) (192 + 6 * 2 + 2) 1) (192 + 6 * 3 + 1) 50) (192 + 6 * 3 + 2) 1), eIA E a2 1244 (fun _ => 0), eIA E a3 311 (fun _ => 0), eIA E a4 311 (fun _ => 0), eIA E a5 60 (fun _ => 0), eIA E a6 3 (fun _ => 0)]) 2 C dX4_init_86 rfl rfl (by omega) (by decide) rfl ?_
  refine z_iinc (v := nI (3 + 1)) (L2 := [some (.ref a), some (.int (nI (3 + 1)))]) C dX4_init_87 rfl (nI_1 3) rfl ?_
  refine z_goto 57 C dX4_init_90 (by decide) ?_
  show eZ x E _ [eO a 4 [.ref a1, .ref a2, .ref a3, .ref a4, .int 0, .int 0, .ref a5, .int 0, .int 0, .int 0, .int 0, .int 0, .int 0, .int 0, .ref a6], rs, eIA E a1 311 (upd (upd (upd (upd (upd (upd (upd (upd (fun _ => 0) (192 + 6 * 0 + 1) 50) (192 + 6 * 0 + 2) 1) (192 + 6 * 1 + 1) 50) (192 + 6 * 1 + 2) 1) (192 + 6 * 2 + 1) 50) (192 + 6 * 2 + 2) 1) (192 + 6 * 3 + 1) 50) (192 + 6 * 3 + 2) 1), eIA E a2 1244 (fun _ => 0), eIA E a3 311 (fun _ => 0), eIA E a4 311 (fun _ => 0), eIA E a5 60 (fun _ => 0), eIA E a6 3 (fun _ => 0)] 57 [some (.ref a), some (.int (nI 4))] [] 6 2240
  refine z_iload_n C dX4_init_57 rfl rfl ?_
  refine z_iconst (v := 4) C dX4_init_58 (by decide) ?_
  refine z_icmp_ge 93 C dX4_init_59 (by decide) (fun h_ => ?_) (fun h_ => absurd h_ (absurd (by decide) h_))
  refine z_aload_n C dX4_init_93 rfl rfl ?_
  refine z_get eK4 0 0 C dX4_init_94 rfl rfl q1671 (eSame1 rfl) (by decide) rfl ?_
  refine z_sipush (v := 307) C dX4_init_97 (by decide) ?_
  refine z_iconst (v := 4) C dX4_init_100 (by decide) ?_
  refine z_iast (m := 307) (Γ2 := [eO a 4 [.ref a1, .ref a2, .ref a3, .ref a4, .int 0, .int 0, .ref a5, .int 0, .int 0, .int 0, .int 0, .int 0, .int 0, .int 0, .ref a6], rs, eIA E a1 311 (upd (upd (upd (upd (upd (upd (upd (upd (upd (fun _ => 0) (192 + 6 * 0 + 1) 50) (192 + 6 * 0 + 2) 1) (192 + 6 * 1 + 1) 50) (192 + 6 * 1 + 2) 1) (192 + 6 * 2 + 1) 50) (192 + 6 * 2 + 2) 1) (192 + 6 * 3 + 1) 50) (192 + 6 * 3 + 2) 1) 307 4), eIA E a2 1244 (fun _ => 0), eIA E a3 311 (fun _ => 0), eIA E a4 311 (fun _ => 0), eIA E a5 60 (fun _ => 0), eIA E a6 3 (fun _ => 0)]) 2 C dX4_init_101 rfl rfl (by omega) (by decide) rfl ?_
  refine z_aload_n C dX4_init_102 rfl rfl ?_
  refine z_get eK4 0 0 C dX4_init_103 rfl rfl q1671 (eSame1 rfl) (by decide) rfl ?_
  refine z_sipush (v := 308) C dX4_init_106 (by decide) ?_
  refine z_iconst (v := 2) C dX4_init_109 (by decide) ?_
  refine z_iast (m := 308) (Γ2 := [eO a 4 [.ref a1, .ref a2, .ref a3, .ref a4, .int 0, .int 0, .ref a5, .int 0, .int 0, .int 0, .int 0, .int 0, .int 0, .int 0, .ref a6], rs, eIA E a1 311 (upd (upd (upd (upd (upd (upd (upd (upd (upd (upd (fun _ => 0) (192 + 6 * 0 + 1) 50) (192 + 6 * 0 + 2) 1) (192 + 6 * 1 + 1) 50) (192 + 6 * 1 + 2) 1) (192 + 6 * 2 + 1) 50) (192 + 6 * 2 + 2) 1) (192 + 6 * 3 + 1) 50) (192 + 6 * 3 + 2) 1) 307 4) 308 2), eIA E a2 1244 (fun _ => 0), eIA E a3 311 (fun _ => 0), eIA E a4 311 (fun _ => 0), eIA E a5 60 (fun _ => 0), eIA E a6 3 (fun _ => 0)]) 2 C dX4_init_110 rfl rfl (by omega) (by decide) rfl ?_
  refine z_aload_n C dX4_init_111 rfl rfl ?_
  refine z_get eK4 0 0 C dX4_init_112 rfl rfl q1671 (eSame1 rfl) (by decide) rfl ?_
  refine z_sipush (v := 309) C dX4_init_115 (by decide) ?_
  refine z_iconst (v := 3) C dX4_init_118 (by decide) ?_
  refine z_iast (m := 309) (Γ2 := [eO a 4 [.ref a1, .ref a2, .ref a3, .ref a4, .int 0, .int 0, .ref a5, .int 0, .int 0, .int 0, .int 0, .int 0, .int 0, .int 0, .ref a6], rs, eIA E a1 311 (upd (upd (upd (upd (upd (upd (upd (upd (upd (upd (upd (fun _ => 0) (192 + 6 * 0 + 1) 50) (192 + 6 * 0 + 2) 1) (192 + 6 * 1 + 1) 50) (192 + 6 * 1 + 2) 1) (192 + 6 * 2 + 1) 50) (192 + 6 * 2 + 2) 1) (192 + 6 * 3 + 1) 50) (192 + 6 * 3 + 2) 1) 307 4) 308 2) 309 3), eIA E a2 1244 (fun _ => 0), eIA E a3 311 (fun _ => 0), eIA E a4 311 (fun _ => 0), eIA E a5 60 (fun _ => 0), eIA E a6 3 (fun _ => 0)]) 2 C dX4_init_119 rfl rfl (by omega) (by decide) rfl ?_
  refine z_aload_n C dX4_init_120 rfl rfl ?_
  refine z_get eK4 0 0 C dX4_init_121 rfl rfl q1671 (eSame1 rfl) (by decide) rfl ?_
  refine z_sipush (v := 310) C dX4_init_124 (by decide) ?_
  refine z_iconst (v := 1) C dX4_init_127 (by decide) ?_
  refine z_iast (m := 310) (Γ2 := [eO a 4 [.ref a1, .ref a2, .ref a3, .ref a4, .int 0, .int 0, .ref a5, .int 0, .int 0, .int 0, .int 0, .int 0, .int 0, .int 0, .ref a6], rs, eIA E a1 311 (upd (upd (upd (upd (upd (upd (upd (upd (upd (upd (upd (upd (fun _ => 0) (192 + 6 * 0 + 1) 50) (192 + 6 * 0 + 2) 1) (192 + 6 * 1 + 1) 50) (192 + 6 * 1 + 2) 1) (192 + 6 * 2 + 1) 50) (192 + 6 * 2 + 2) 1) (192 + 6 * 3 + 1) 50) (192 + 6 * 3 + 2) 1) 307 4) 308 2) 309 3) 310 1), eIA E a2 1244 (fun _ => 0), eIA E a3 311 (fun _ => 0), eIA E a4 311 (fun _ => 0), eIA E a5 60 (fun _ => 0), eIA E a6 3 (fun _ => 0)]) 2 C dX4_init_128 rfl rfl (by omega) (by decide) rfl ?_
  refine z_pick (Γ' := [eO a 4 [.ref a1, .ref a2, .ref a3, .ref a4, .int 0, .int 0, .ref a5, .int 0, .int 0, .int 0, .int 0, .int 0, .int 0, .int 0, .ref a6], eIA E a1 311 (upd (upd (upd (upd (upd (upd (upd (upd (upd (upd (upd (upd (fun _ => 0) (192 + 6 * 0 + 1) 50) (192 + 6 * 0 + 2) 1) (192 + 6 * 1 + 1) 50) (192 + 6 * 1 + 2) 1) (192 + 6 * 2 + 1) 50) (192 + 6 * 2 + 2) 1) (192 + 6 * 3 + 1) 50) (192 + 6 * 3 + 2) 1) 307 4) 308 2) 309 3) 310 1), eIA E a2 1244 (fun _ => 0), eIA E a3 311 (fun _ => 0), eIA E a4 311 (fun _ => 0), eIA E a5 60 (fun _ => 0), eIA E a6 3 (fun _ => 0), rs]) [0, 2, 3, 4, 5, 6, 7, 1] (ePm 8 rfl (by decide +kernel)) rfl ?_
  subst hQ_
  exact z_vret (Γ := [eO a 4 [.ref a1, .ref a2, .ref a3, .ref a4, .int 0, .int 0, .ref a5, .int 0, .int 0, .int 0, .int 0, .int 0, .int 0, .int 0, .ref a6], eIA E a1 311 (upd (upd (upd (upd (upd (upd (upd (upd (upd (upd (upd (upd (fun _ => 0) (192 + 6 * 0 + 1) 50) (192 + 6 * 0 + 2) 1) (192 + 6 * 1 + 1) 50) (192 + 6 * 1 + 2) 1) (192 + 6 * 2 + 1) 50) (192 + 6 * 2 + 2) 1) (192 + 6 * 3 + 1) 50) (192 + 6 * 3 + 2) 1) 307 4) 308 2) 309 3) 310 1), eIA E a2 1244 (fun _ => 0), eIA E a3 311 (fun _ => 0), eIA E a4 311 (fun _ => 0), eIA E a5 60 (fun _ => 0), eIA E a6 3 (fun _ => 0)]) C dX4_init_129 rfl (Nat.le_of_ble_eq_true rfl) (Nat.le_of_ble_eq_true rfl) ⟨rfl, (a1, a2, a3, a4, 0, 0, a5, 0, 0, 0, 0, 0, 0, 0, a6), _, _, _, _, _, _, rfl, Rep_0, rfl, rfl, rfl⟩
