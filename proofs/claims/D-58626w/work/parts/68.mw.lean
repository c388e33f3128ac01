/-! ===== the model: does, plays, fault, play ===== -/
set_option maxRecDepth 100000
abbrev Mo.plS (o : Mo) (pn sp fr re ca os od : Int32) : Mo := (o.sa, o.pa, o.ha, o.xa, pn, 0, o.ta, o.ty, sp, fr, re, ca, os, od, o.na)
theorem gHr_1 (hs : List Am) (A : Am) (r : Gr) : gHr 1 hs A r = hs := by
  rcases r with c | ⟨v, M⟩
  · rfl
  · show (if (1 : Int32) = 0 then gHist hs A else hs) = hs
    exact if_neg (by decide)
theorem gRm_ok {c : Nat} {A M : Am} {f : Nat → Int32} {v : Int32} (hok : gOk A) (e : gDone (nI c) A f = .inr (v, M)) : gOk M := gDone_ok hok e

set_option maxHeartbeats 4000000 in
theorem m_Mdoes {l : Launch} (hl : l.stackTraces = false) (E : eEn) (a : Nat) (o : Mo) (f : Nat → Int32) (A : Am) (hok : gOk A) (hwf : gWf A) (R : Rep f A) (h : Nat → Int32) (hs : List Am) (hH : rH h o.pn hs) (hoks : ∀ B ∈ hs, gOk B) (hru : o.ru = 0 ∨ o.ru = 1) (nf : Nat → Int32) (ch : Nat) (hW : gW ch ≠ 0) : eMet l E yX4_does (ws_ yX4_does cX4_does 1 (some .int)) ({ frames := 8, cells := 0, slots := 0, locals := 179 }) [.ref a] [eO a 4 [.ref o.sa, .ref o.pa, .ref o.ha, .ref o.xa, .int o.pn, .int o.ru, .ref o.ta, .int o.ty, .int o.sp, .int o.fr, .int o.re, .int o.ca, .int o.os, .int (nI ch), .ref o.na], eIA E o.sa 311 f, eIA E o.pa 1244 h, eIA E o.na 3 nf] (fun w Γ => ∃ f2 h2 pn2, w = some (.int (gRv (gDone (nI ch) A nf))) ∧ Γ = [eMO a ((o.odS (nI ch)).pnS pn2), eIA E o.sa 311 f2, eIA E o.pa 1244 h2, eIA E o.na 3 nf] ∧ Rep f2 (gRm A (gDone (nI ch) A nf)) ∧ rH h2 pn2 (gHr o.ru hs A (gDone (nI ch) A nf))) := by
  refine eStart (cc := cX4_does) (nL := 1) (L := [some (.ref a)]) hl (by decide) rfl (List.forall_mem_cons.mpr ⟨rfl, (fun _ h => absurd h List.not_mem_nil)⟩) (Nat.le_of_ble_eq_true rfl) ?_
  intro x rs C
  show eZ x E (eQ x E (fun w Γ => ∃ f2 h2 pn2, w = some (.int (gRv (gDone (nI ch) A nf))) ∧ Γ = [eMO a ((o.odS (nI ch)).pnS pn2), eIA E o.sa 311 f2, eIA E o.pa 1244 h2, eIA E o.na 3 nf] ∧ Rep f2 (gRm A (gDone (nI ch) A nf)) ∧ rH h2 pn2 (gHr o.ru hs A (gDone (nI ch) A nf))) rs) [eO a 4 [.ref o.sa, .ref o.pa, .ref o.ha, .ref o.xa, .int o.pn, .int o.ru, .ref o.ta, .int o.ty, .int o.sp, .int o.fr, .int o.re, .int o.ca, .int o.os, .int (nI ch), .ref o.na], eIA E o.sa 311 f, eIA E o.pa 1244 h, eIA E o.na 3 nf, rs] 0 [some (.ref a)] [] 0 0
  generalize hQ_ : eQ x E (fun w Γ => ∃ f2 h2 pn2, w = some (.int (gRv (gDone (nI ch) A nf))) ∧ Γ = [eMO a ((o.odS (nI ch)).pnS pn2), eIA E o.sa 311 f2, eIA E o.pa 1244 h2, eIA E o.na 3 nf] ∧ Rep f2 (gRm A (gDone (nI ch) A nf)) ∧ rH h2 pn2 (gHr o.ru hs A (gDone (nI ch) A nf))) rs = Q_
  rcases gW_l ch hW with hl_ | hl_ | hl_ | hl_ | hl_ | hl_
  · subst hl_
    show eZ x E _ [eO a 4 [.ref o.sa, .ref o.pa, .ref o.ha, .ref o.xa, .int o.pn, .int o.ru, .ref o.ta, .int o.ty, .int o.sp, .int o.fr, .int o.re, .int o.ca, .int o.os, .int (nI 101), .ref o.na], eIA E o.sa 311 f, eIA E o.pa 1244 h, eIA E o.na 3 nf, rs] 0 [some (.ref a)] [] 0 0
    refine z_aload_n C dX4_does_0 rfl rfl ?_
    refine z_get eK4 0 13 C dX4_does_1 rfl rfl q1684 (eSame1 rfl) (by decide) rfl ?_
    refine z_lookup (off := 52) 56 C dX4_does_4 (by decide) (by decide) (by decide) ?_
    refine z_aload_n C dX4_does_56 rfl rfl ?_
    refine z_aload_n C dX4_does_57 rfl rfl ?_
    refine z_get eK4 0 14 C dX4_does_58 rfl rfl q1685 (eSame1 rfl) (by decide) rfl ?_
    refine z_iconst (v := 0) C dX4_does_61 (by decide) ?_
    refine z_iald (m := 0) (v := nf 0) 3 C dX4_does_62 rfl rfl (by omega) (by decide) rfl ?_
    refine z_aload_n C dX4_does_63 rfl rfl ?_
    refine z_get eK4 0 14 C dX4_does_64 rfl rfl q1685 (eSame1 rfl) (by decide) rfl ?_
    refine z_iconst (v := 1) C dX4_does_67 (by decide) ?_
    refine z_iald (m := 1) (v := nf 1) 3 C dX4_does_68 rfl rfl (by omega) (by decide) rfl ?_
    refine z_aload_n C dX4_does_69 rfl rfl ?_
    refine z_get eK4 0 14 C dX4_does_70 rfl rfl q1685 (eSame1 rfl) (by decide) rfl ?_
    refine z_iconst (v := 2) C dX4_does_73 (by decide) ?_
    refine z_iald (m := 2) (v := nf 2) 3 C dX4_does_74 rfl rfl (by omega) (by decide) rfl ?_
    refine z_iconst (v := 0) C dX4_does_75 (by decide) ?_
    refine z_iconst (v := 1) C dX4_does_76 (by decide) ?_
    refine z_iconst (v := (-1)) C dX4_does_77 (by decide) ?_
    have hd : gDone (nI 101) A nf = _ := gDone_e A nf
    refine z_callV (r := (RX4, TX4, 15)) (As := [.int (nf 0), .int (nf 1), .int (nf 2), .int 0, .int 1, .int (-1)]) (rest := []) (Δ := [eIA E o.na 3 nf, rs]) [0, 1, 2] [3, 4] 6 (m_Megg hl E a (o.sa, o.pa, o.ha, o.xa, o.pn, o.ru, o.ta, o.ty, o.sp, o.fr, o.re, o.ca, o.os, (nI 101), o.na) f A hok R h hs hH hoks hru (nf 0) (nf 1) (nf 2) 0 1 (-1)) C dX4_does_78 rfl rfl (eIn (i := 0) rfl List.mem_cons_self) rfl rfl q1925 q1718 q1719 q67 q1720 (by decide +kernel) rfl (ePm 5 rfl (by decide +kernel)) rfl rfl ⟨Nat.le_of_ble_eq_true rfl, Nat.le_of_ble_eq_true rfl⟩ (Nat.le_trans eS0 (Nat.le_of_ble_eq_true rfl)) ⟨Nat.le_of_ble_eq_true rfl, Nat.le_of_ble_eq_true rfl⟩ (fun v_ Γ_ hp_ => ?_)
    obtain ⟨f2, h2, pn2, rfl, rfl, R2, hH2⟩ := hp_
    show eZ x E _ [eO a 4 [.ref o.sa, .ref o.pa, .ref o.ha, .ref o.xa, .int pn2, .int o.ru, .ref o.ta, .int o.ty, .int o.sp, .int o.fr, .int o.re, .int o.ca, .int o.os, .int (nI 101), .ref o.na], eIA E o.sa 311 f2, eIA E o.pa 1244 h2, eIA E o.na 3 nf, rs] 81 [some (.ref a)] [.int (gRv (gPuts A (nf 0) (nf 1, nf 2, 1, -1, 0, 0)))] 0 0
    subst hQ_
    exact z_ret (Γ := [eO a 4 [.ref o.sa, .ref o.pa, .ref o.ha, .ref o.xa, .int pn2, .int o.ru, .ref o.ta, .int o.ty, .int o.sp, .int o.fr, .int o.re, .int o.ca, .int o.os, .int (nI 101), .ref o.na], eIA E o.sa 311 f2, eIA E o.pa 1244 h2, eIA E o.na 3 nf]) C dX4_does_81 rfl rfl (Nat.le_of_ble_eq_true rfl) (Nat.le_of_ble_eq_true rfl) ⟨f2, h2, pn2, by rw [hd], rfl, by rw [hd]; exact R2, by rw [hd]; exact hH2⟩
  · subst hl_
    show eZ x E _ [eO a 4 [.ref o.sa, .ref o.pa, .ref o.ha, .ref o.xa, .int o.pn, .int o.ru, .ref o.ta, .int o.ty, .int o.sp, .int o.fr, .int o.re, .int o.ca, .int o.os, .int (nI 115), .ref o.na], eIA E o.sa 311 f, eIA E o.pa 1244 h, eIA E o.na 3 nf, rs] 0 [some (.ref a)] [] 0 0
    refine z_aload_n C dX4_does_0 rfl rfl ?_
    refine z_get eK4 0 13 C dX4_does_1 rfl rfl q1684 (eSame1 rfl) (by decide) rfl ?_
    refine z_lookup (off := 78) 82 C dX4_does_4 (by decide) (by decide) (by decide) ?_
    refine z_aload_n C dX4_does_82 rfl rfl ?_
    refine z_aload_n C dX4_does_83 rfl rfl ?_
    refine z_get eK4 0 14 C dX4_does_84 rfl rfl q1685 (eSame1 rfl) (by decide) rfl ?_
    refine z_iconst (v := 0) C dX4_does_87 (by decide) ?_
    refine z_iald (m := 0) (v := nf 0) 3 C dX4_does_88 rfl rfl (by omega) (by decide) rfl ?_
    refine z_aload_n C dX4_does_89 rfl rfl ?_
    refine z_get eK4 0 14 C dX4_does_90 rfl rfl q1685 (eSame1 rfl) (by decide) rfl ?_
    refine z_iconst (v := 1) C dX4_does_93 (by decide) ?_
    refine z_iald (m := 1) (v := nf 1) 3 C dX4_does_94 rfl rfl (by omega) (by decide) rfl ?_
    have hd : gDone (nI 115) A nf = _ := gDone_s A nf
    refine z_callV (r := (RX4, TX4, 15)) (As := [.int (nf 0), .int (nf 1)]) (rest := []) (Δ := [eIA E o.na 3 nf, rs]) [0, 1, 2] [3, 4] 2 (m_Mstain hl E a (o.sa, o.pa, o.ha, o.xa, o.pn, o.ru, o.ta, o.ty, o.sp, o.fr, o.re, o.ca, o.os, (nI 115), o.na) f A hok R h hs hH hoks hru (nf 0) (nf 1)) C dX4_does_95 rfl rfl (eIn (i := 0) rfl List.mem_cons_self) rfl rfl q1926 q1741 q1742 q67 q1743 (by decide +kernel) rfl (ePm 5 rfl (by decide +kernel)) rfl rfl ⟨Nat.le_of_ble_eq_true rfl, Nat.le_of_ble_eq_true rfl⟩ (Nat.le_trans eS0 (Nat.le_of_ble_eq_true rfl)) ⟨Nat.le_of_ble_eq_true rfl, Nat.le_of_ble_eq_true rfl⟩ (fun v_ Γ_ hp_ => ?_)
    obtain ⟨f2, h2, pn2, rfl, rfl, R2, hH2⟩ := hp_
    show eZ x E _ [eO a 4 [.ref o.sa, .ref o.pa, .ref o.ha, .ref o.xa, .int pn2, .int o.ru, .ref o.ta, .int o.ty, .int o.sp, .int o.fr, .int o.re, .int o.ca, .int o.os, .int (nI 115), .ref o.na], eIA E o.sa 311 f2, eIA E o.pa 1244 h2, eIA E o.na 3 nf, rs] 98 [some (.ref a)] [.int (gRv (gSpots A (nf 0) (nf 1)))] 0 0
    subst hQ_
    exact z_ret (Γ := [eO a 4 [.ref o.sa, .ref o.pa, .ref o.ha, .ref o.xa, .int pn2, .int o.ru, .ref o.ta, .int o.ty, .int o.sp, .int o.fr, .int o.re, .int o.ca, .int o.os, .int (nI 115), .ref o.na], eIA E o.sa 311 f2, eIA E o.pa 1244 h2, eIA E o.na 3 nf]) C dX4_does_98 rfl rfl (Nat.le_of_ble_eq_true rfl) (Nat.le_of_ble_eq_true rfl) ⟨f2, h2, pn2, by rw [hd], rfl, by rw [hd]; exact R2, by rw [hd]; exact hH2⟩
  · subst hl_
    show eZ x E _ [eO a 4 [.ref o.sa, .ref o.pa, .ref o.ha, .ref o.xa, .int o.pn, .int o.ru, .ref o.ta, .int o.ty, .int o.sp, .int o.fr, .int o.re, .int o.ca, .int o.os, .int (nI 108), .ref o.na], eIA E o.sa 311 f, eIA E o.pa 1244 h, eIA E o.na 3 nf, rs] 0 [some (.ref a)] [] 0 0
    refine z_aload_n C dX4_does_0 rfl rfl ?_
    refine z_get eK4 0 13 C dX4_does_1 rfl rfl q1684 (eSame1 rfl) (by decide) rfl ?_
    refine z_lookup (off := 95) 99 C dX4_does_4 (by decide) (by decide) (by decide) ?_
    refine z_aload_n C dX4_does_99 rfl rfl ?_
    refine z_aload_n C dX4_does_100 rfl rfl ?_
    refine z_get eK4 0 14 C dX4_does_101 rfl rfl q1685 (eSame1 rfl) (by decide) rfl ?_
    refine z_iconst (v := 0) C dX4_does_104 (by decide) ?_
    refine z_iald (m := 0) (v := nf 0) 3 C dX4_does_105 rfl rfl (by omega) (by decide) rfl ?_
    refine z_aload_n C dX4_does_106 rfl rfl ?_
    refine z_get eK4 0 14 C dX4_does_107 rfl rfl q1685 (eSame1 rfl) (by decide) rfl ?_
    refine z_iconst (v := 1) C dX4_does_110 (by decide) ?_
    refine z_iald (m := 1) (v := nf 1) 3 C dX4_does_111 rfl rfl (by omega) (by decide) rfl ?_
    have hd : gDone (nI 108) A nf = _ := gDone_l A nf
    refine z_callV (r := (RX4, TX4, 15)) (As := [.int (nf 0), .int (nf 1)]) (rest := []) (Δ := [eIA E o.na 3 nf, rs]) [0, 1, 2] [3, 4] 2 (m_Mlight hl E a (o.sa, o.pa, o.ha, o.xa, o.pn, o.ru, o.ta, o.ty, o.sp, o.fr, o.re, o.ca, o.os, (nI 108), o.na) f A hok R h hs hH hoks hru (nf 0) (nf 1)) C dX4_does_112 rfl rfl (eIn (i := 0) rfl List.mem_cons_self) rfl rfl q1927 q1746 q1747 q67 q1748 (by decide +kernel) rfl (ePm 5 rfl (by decide +kernel)) rfl rfl ⟨Nat.le_of_ble_eq_true rfl, Nat.le_of_ble_eq_true rfl⟩ (Nat.le_trans eS0 (Nat.le_of_ble_eq_true rfl)) ⟨Nat.le_of_ble_eq_true rfl, Nat.le_of_ble_eq_true rfl⟩ (fun v_ Γ_ hp_ => ?_)
    obtain ⟨f2, h2, pn2, rfl, rfl, R2, hH2⟩ := hp_
    show eZ x E _ [eO a 4 [.ref o.sa, .ref o.pa, .ref o.ha, .ref o.xa, .int pn2, .int o.ru, .ref o.ta, .int o.ty, .int o.sp, .int o.fr, .int o.re, .int o.ca, .int o.os, .int (nI 108), .ref o.na], eIA E o.sa 311 f2, eIA E o.pa 1244 h2, eIA E o.na 3 nf, rs] 115 [some (.ref a)] [.int (gRv (gLights A (nf 0) (nf 1)))] 0 0
    subst hQ_
    exact z_ret (Γ := [eO a 4 [.ref o.sa, .ref o.pa, .ref o.ha, .ref o.xa, .int pn2, .int o.ru, .ref o.ta, .int o.ty, .int o.sp, .int o.fr, .int o.re, .int o.ca, .int o.os, .int (nI 108), .ref o.na], eIA E o.sa 311 f2, eIA E o.pa 1244 h2, eIA E o.na 3 nf]) C dX4_does_115 rfl rfl (Nat.le_of_ble_eq_true rfl) (Nat.le_of_ble_eq_true rfl) ⟨f2, h2, pn2, by rw [hd], rfl, by rw [hd]; exact R2, by rw [hd]; exact hH2⟩
  · subst hl_
    show eZ x E _ [eO a 4 [.ref o.sa, .ref o.pa, .ref o.ha, .ref o.xa, .int o.pn, .int o.ru, .ref o.ta, .int o.ty, .int o.sp, .int o.fr, .int o.re, .int o.ca, .int o.os, .int (nI 116), .ref o.na], eIA E o.sa 311 f, eIA E o.pa 1244 h, eIA E o.na 3 nf, rs] 0 [some (.ref a)] [] 0 0
    refine z_aload_n C dX4_does_0 rfl rfl ?_
    refine z_get eK4 0 13 C dX4_does_1 rfl rfl q1684 (eSame1 rfl) (by decide) rfl ?_
    refine z_lookup (off := 112) 116 C dX4_does_4 (by decide) (by decide) (by decide) ?_
    refine z_aload_n C dX4_does_116 rfl rfl ?_
    refine z_aload_n C dX4_does_117 rfl rfl ?_
    refine z_get eK4 0 14 C dX4_does_118 rfl rfl q1685 (eSame1 rfl) (by decide) rfl ?_
    refine z_iconst (v := 0) C dX4_does_121 (by decide) ?_
    refine z_iald (m := 0) (v := nf 0) 3 C dX4_does_122 rfl rfl (by omega) (by decide) rfl ?_
    refine z_aload_n C dX4_does_123 rfl rfl ?_
    refine z_get eK4 0 14 C dX4_does_124 rfl rfl q1685 (eSame1 rfl) (by decide) rfl ?_
    refine z_iconst (v := 1) C dX4_does_127 (by decide) ?_
    refine z_iald (m := 1) (v := nf 1) 3 C dX4_does_128 rfl rfl (by omega) (by decide) rfl ?_
    have hd : gDone (nI 116) A nf = _ := gDone_t A nf
    refine z_callV (r := (RX4, TX4, 15)) (As := [.int (nf 0), .int (nf 1)]) (rest := []) (Δ := [eIA E o.na 3 nf, rs]) [0, 1, 2] [3, 4] 2 (m_Mturn hl E a (o.sa, o.pa, o.ha, o.xa, o.pn, o.ru, o.ta, o.ty, o.sp, o.fr, o.re, o.ca, o.os, (nI 116), o.na) f A hok R h hs hH hoks hru (nf 0) (nf 1)) C dX4_does_129 rfl rfl (eIn (i := 0) rfl List.mem_cons_self) rfl rfl q1928 q1750 q1751 q67 q1752 (by decide +kernel) rfl (ePm 5 rfl (by decide +kernel)) rfl rfl ⟨Nat.le_of_ble_eq_true rfl, Nat.le_of_ble_eq_true rfl⟩ (Nat.le_trans eS0 (Nat.le_of_ble_eq_true rfl)) ⟨Nat.le_of_ble_eq_true rfl, Nat.le_of_ble_eq_true rfl⟩ (fun v_ Γ_ hp_ => ?_)
    obtain ⟨f2, h2, pn2, rfl, rfl, R2, hH2⟩ := hp_
    show eZ x E _ [eO a 4 [.ref o.sa, .ref o.pa, .ref o.ha, .ref o.xa, .int pn2, .int o.ru, .ref o.ta, .int o.ty, .int o.sp, .int o.fr, .int o.re, .int o.ca, .int o.os, .int (nI 116), .ref o.na], eIA E o.sa 311 f2, eIA E o.pa 1244 h2, eIA E o.na 3 nf, rs] 132 [some (.ref a)] [.int (gRv (gTurns A (nf 0) (nf 1)))] 0 0
    subst hQ_
    exact z_ret (Γ := [eO a 4 [.ref o.sa, .ref o.pa, .ref o.ha, .ref o.xa, .int pn2, .int o.ru, .ref o.ta, .int o.ty, .int o.sp, .int o.fr, .int o.re, .int o.ca, .int o.os, .int (nI 116), .ref o.na], eIA E o.sa 311 f2, eIA E o.pa 1244 h2, eIA E o.na 3 nf]) C dX4_does_132 rfl rfl (Nat.le_of_ble_eq_true rfl) (Nat.le_of_ble_eq_true rfl) ⟨f2, h2, pn2, by rw [hd], rfl, by rw [hd]; exact R2, by rw [hd]; exact hH2⟩
  · subst hl_
    show eZ x E _ [eO a 4 [.ref o.sa, .ref o.pa, .ref o.ha, .ref o.xa, .int o.pn, .int o.ru, .ref o.ta, .int o.ty, .int o.sp, .int o.fr, .int o.re, .int o.ca, .int o.os, .int (nI 99), .ref o.na], eIA E o.sa 311 f, eIA E o.pa 1244 h, eIA E o.na 3 nf, rs] 0 [some (.ref a)] [] 0 0
    refine z_aload_n C dX4_does_0 rfl rfl ?_
    refine z_get eK4 0 13 C dX4_does_1 rfl rfl q1684 (eSame1 rfl) (by decide) rfl ?_
    refine z_lookup (off := 129) 133 C dX4_does_4 (by decide) (by decide) (by decide) ?_
    refine z_aload_n C dX4_does_133 rfl rfl ?_
    refine z_aload_n C dX4_does_134 rfl rfl ?_
    refine z_get eK4 0 14 C dX4_does_135 rfl rfl q1685 (eSame1 rfl) (by decide) rfl ?_
    refine z_iconst (v := 0) C dX4_does_138 (by decide) ?_
    refine z_iald (m := 0) (v := nf 0) 3 C dX4_does_139 rfl rfl (by omega) (by decide) rfl ?_
    have hd : gDone (nI 99) A nf = _ := gDone_c A nf
    refine z_callV (r := (RX4, TX4, 15)) (As := [.int (nf 0)]) (rest := []) (Δ := [eIA E o.na 3 nf, rs]) [0, 1, 2] [3, 4] 1 (m_Mclean hl E a (o.sa, o.pa, o.ha, o.xa, o.pn, o.ru, o.ta, o.ty, o.sp, o.fr, o.re, o.ca, o.os, (nI 99), o.na) f A hok R h hs hH hoks hru (nf 0)) C dX4_does_140 rfl rfl (eIn (i := 0) rfl List.mem_cons_self) rfl rfl q1929 q1754 q1755 q67 q1756 (by decide +kernel) rfl (ePm 5 rfl (by decide +kernel)) rfl rfl ⟨Nat.le_of_ble_eq_true rfl, Nat.le_of_ble_eq_true rfl⟩ (Nat.le_trans eS0 (Nat.le_of_ble_eq_true rfl)) ⟨Nat.le_of_ble_eq_true rfl, Nat.le_of_ble_eq_true rfl⟩ (fun v_ Γ_ hp_ => ?_)
    obtain ⟨f2, h2, pn2, rfl, rfl, R2, hH2⟩ := hp_
    show eZ x E _ [eO a 4 [.ref o.sa, .ref o.pa, .ref o.ha, .ref o.xa, .int pn2, .int o.ru, .ref o.ta, .int o.ty, .int o.sp, .int o.fr, .int o.re, .int o.ca, .int o.os, .int (nI 99), .ref o.na], eIA E o.sa 311 f2, eIA E o.pa 1244 h2, eIA E o.na 3 nf, rs] 143 [some (.ref a)] [.int (gRv (gCleans A (nf 0)))] 0 0
    subst hQ_
    exact z_ret (Γ := [eO a 4 [.ref o.sa, .ref o.pa, .ref o.ha, .ref o.xa, .int pn2, .int o.ru, .ref o.ta, .int o.ty, .int o.sp, .int o.fr, .int o.re, .int o.ca, .int o.os, .int (nI 99), .ref o.na], eIA E o.sa 311 f2, eIA E o.pa 1244 h2, eIA E o.na 3 nf]) C dX4_does_143 rfl rfl (Nat.le_of_ble_eq_true rfl) (Nat.le_of_ble_eq_true rfl) ⟨f2, h2, pn2, by rw [hd], rfl, by rw [hd]; exact R2, by rw [hd]; exact hH2⟩
  · subst hl_
    show eZ x E _ [eO a 4 [.ref o.sa, .ref o.pa, .ref o.ha, .ref o.xa, .int o.pn, .int o.ru, .ref o.ta, .int o.ty, .int o.sp, .int o.fr, .int o.re, .int o.ca, .int o.os, .int (nI 114), .ref o.na], eIA E o.sa 311 f, eIA E o.pa 1244 h, eIA E o.na 3 nf, rs] 0 [some (.ref a)] [] 0 0
    refine z_aload_n C dX4_does_0 rfl rfl ?_
    refine z_get eK4 0 13 C dX4_does_1 rfl rfl q1684 (eSame1 rfl) (by decide) rfl ?_
    refine z_lookup (off := 140) 144 C dX4_does_4 (by decide) (by decide) (by decide) ?_
    refine z_aload_n C dX4_does_144 rfl rfl ?_
    refine z_aload_n C dX4_does_145 rfl rfl ?_
    refine z_get eK4 0 14 C dX4_does_146 rfl rfl q1685 (eSame1 rfl) (by decide) rfl ?_
    refine z_iconst (v := 0) C dX4_does_149 (by decide) ?_
    refine z_iald (m := 0) (v := nf 0) 3 C dX4_does_150 rfl rfl (by omega) (by decide) rfl ?_
    have hd : gDone (nI 114) A nf = _ := gDone_r A nf
    refine z_callV (r := (RX4, TX4, 15)) (As := [.int (nf 0)]) (rest := []) (Δ := [eIA E o.na 3 nf, rs]) [0, 1, 2] [3, 4] 1 (m_Mrun hl E a (o.sa, o.pa, o.ha, o.xa, o.pn, o.ru, o.ta, o.ty, o.sp, o.fr, o.re, o.ca, o.os, (nI 114), o.na) f A hok hwf R h hs hH hoks hru (nf 0)) C dX4_does_151 rfl rfl (eIn (i := 0) rfl List.mem_cons_self) rfl rfl q1930 q1758 q1759 q67 q1760 (by decide +kernel) rfl (ePm 5 rfl (by decide +kernel)) rfl rfl ⟨Nat.le_of_ble_eq_true rfl, Nat.le_of_ble_eq_true rfl⟩ (Nat.le_trans eS0 (Nat.le_of_ble_eq_true rfl)) ⟨Nat.le_of_ble_eq_true rfl, Nat.le_of_ble_eq_true rfl⟩ (fun v_ Γ_ hp_ => ?_)
    obtain ⟨f2, h2, pn2, rfl, rfl, R2, hH2⟩ := hp_
    show eZ x E _ [eO a 4 [.ref o.sa, .ref o.pa, .ref o.ha, .ref o.xa, .int pn2, .int o.ru, .ref o.ta, .int o.ty, .int o.sp, .int o.fr, .int o.re, .int o.ca, .int o.os, .int (nI 114), .ref o.na], eIA E o.sa 311 f2, eIA E o.pa 1244 h2, eIA E o.na 3 nf, rs] 154 [some (.ref a)] [.int (gRv (gRuns A (nf 0)))] 0 0
    subst hQ_
    exact z_ret (Γ := [eO a 4 [.ref o.sa, .ref o.pa, .ref o.ha, .ref o.xa, .int pn2, .int o.ru, .ref o.ta, .int o.ty, .int o.sp, .int o.fr, .int o.re, .int o.ca, .int o.os, .int (nI 114), .ref o.na], eIA E o.sa 311 f2, eIA E o.pa 1244 h2, eIA E o.na 3 nf]) C dX4_does_154 rfl rfl (Nat.le_of_ble_eq_true rfl) (Nat.le_of_ble_eq_true rfl) ⟨f2, h2, pn2, by rw [hd], rfl, by rw [hd]; exact R2, by rw [hd]; exact hH2⟩

set_option maxHeartbeats 4000000 in
theorem m_Mplays {l : Launch} (hl : l.stackTraces = false) (E : eEn) (a : Nat) (o : Mo) (f : Nat → Int32) (A : Am) (hok : gOk A) (hwf : gWf A) (R : Rep f A) (h : Nat → Int32) (hs : List Am) (hH : rH h o.pn hs) (hoks : ∀ B ∈ hs, gOk B) (tx : List Nat) (tf : Nat → Int32) (hT : tR tf o.ty tx) (h126 : ∀ c ∈ tx, 32 ≤ c ∧ c ≤ 126) (nf : Nat → Int32)  : eMet l E yX4_plays (ws_ yX4_plays cX4_plays 4 (some .boolean)) ({ frames := 9, cells := 0, slots := 0, locals := 199 }) [.ref a] [eO a 4 [.ref o.sa, .ref o.pa, .ref o.ha, .ref o.xa, .int o.pn, .int o.ru, .ref o.ta, .int o.ty, .int o.sp, .int o.fr, .int o.re, .int o.ca, .int o.os, .int o.od, .ref o.na], eIA E o.sa 311 f, eIA E o.pa 1244 h, eIA E o.ta 60 tf, eIA E o.na 3 nf] (fun w Γ => ∃ f2 h2 nf2 pn2 sp2 fr2 re2 ca2 os2 od2, w = some (.int (eB (decide ((gWl tx A).2.1 = 0)))) ∧ Γ = [eMO a (o.plS pn2 sp2 fr2 re2 ca2 os2 od2), eIA E o.sa 311 f2, eIA E o.pa 1244 h2, eIA E o.ta 60 tf, eIA E o.na 3 nf2] ∧ Rep f2 (gWl tx A).2.2.2.2.2 ∧ rH h2 pn2 hs ∧ ((gWl tx A).2.1 = 0 → os2 = (gWl tx A).2.2.2.2.1) ∧ ((gWl tx A).2.1 ≠ 0 → fr2 = (gWl tx A).1 ∧ re2 = (gWl tx A).2.1 ∧ ca2 = (gWl tx A).2.2.1)) := by
  refine eStart (cc := cX4_plays) (nL := 4) (L := [some (.ref a), none, none, none]) hl (by decide) rfl (List.forall_mem_cons.mpr ⟨rfl, (fun _ h => absurd h List.not_mem_nil)⟩) (Nat.le_of_ble_eq_true rfl) ?_
  intro x rs C
  show eZ x E (eQ x E (fun w Γ => ∃ f2 h2 nf2 pn2 sp2 fr2 re2 ca2 os2 od2, w = some (.int (eB (decide ((gWl tx A).2.1 = 0)))) ∧ Γ = [eMO a (o.plS pn2 sp2 fr2 re2 ca2 os2 od2), eIA E o.sa 311 f2, eIA E o.pa 1244 h2, eIA E o.ta 60 tf, eIA E o.na 3 nf2] ∧ Rep f2 (gWl tx A).2.2.2.2.2 ∧ rH h2 pn2 hs ∧ ((gWl tx A).2.1 = 0 → os2 = (gWl tx A).2.2.2.2.1) ∧ ((gWl tx A).2.1 ≠ 0 → fr2 = (gWl tx A).1 ∧ re2 = (gWl tx A).2.1 ∧ ca2 = (gWl tx A).2.2.1)) rs) [eO a 4 [.ref o.sa, .ref o.pa, .ref o.ha, .ref o.xa, .int o.pn, .int o.ru, .ref o.ta, .int o.ty, .int o.sp, .int o.fr, .int o.re, .int o.ca, .int o.os, .int o.od, .ref o.na], eIA E o.sa 311 f, eIA E o.pa 1244 h, eIA E o.ta 60 tf, eIA E o.na 3 nf, rs] 0 [some (.ref a), none, none, none] [] 0 0
  generalize hQ_ : eQ x E (fun w Γ => ∃ f2 h2 nf2 pn2 sp2 fr2 re2 ca2 os2 od2, w = some (.int (eB (decide ((gWl tx A).2.1 = 0)))) ∧ Γ = [eMO a (o.plS pn2 sp2 fr2 re2 ca2 os2 od2), eIA E o.sa 311 f2, eIA E o.pa 1244 h2, eIA E o.ta 60 tf, eIA E o.na 3 nf2] ∧ Rep f2 (gWl tx A).2.2.2.2.2 ∧ rH h2 pn2 hs ∧ ((gWl tx A).2.1 = 0 → os2 = (gWl tx A).2.2.2.2.1) ∧ ((gWl tx A).2.1 ≠ 0 → fr2 = (gWl tx A).1 ∧ re2 = (gWl tx A).2.1 ∧ ca2 = (gWl tx A).2.2.1)) rs = Q_
  have ht60 := hT.2.1
  refine z_go (Γ' := [eO a 4 [.ref o.sa, .ref o.pa, .ref o.ha, .ref o.xa, .int o.pn, .int o.ru, .ref o.ta, .int (nI tx.length), .int o.sp, .int o.fr, .int o.re, .int o.ca, .int o.os, .int o.od, .ref o.na], eIA E o.sa 311 f, eIA E o.pa 1244 h, eIA E o.ta 60 tf, eIA E o.na 3 nf, rs]) (by rw [hT.1]) ?_
  show eZ x E _ [eO a 4 [.ref o.sa, .ref o.pa, .ref o.ha, .ref o.xa, .int o.pn, .int o.ru, .ref o.ta, .int (nI tx.length), .int o.sp, .int o.fr, .int o.re, .int o.ca, .int o.os, .int o.od, .ref o.na], eIA E o.sa 311 f, eIA E o.pa 1244 h, eIA E o.ta 60 tf, eIA E o.na 3 nf, rs] 0 [some (.ref a), none, none, none] [] 0 0
  refine z_aload_n C dX4_plays_0 rfl rfl ?_
  refine z_iconst (v := 1) C dX4_plays_1 (by decide) ?_
  refine z_put eK4 0 5 (Γ2 := [eO a 4 [.ref o.sa, .ref o.pa, .ref o.ha, .ref o.xa, .int o.pn, .int 1, .ref o.ta, .int (nI tx.length), .int o.sp, .int o.fr, .int o.re, .int o.ca, .int o.os, .int o.od, .ref o.na], eIA E o.sa 311 f, eIA E o.pa 1244 h, eIA E o.ta 60 tf, eIA E o.na 3 nf, rs]) C dX4_plays_2 rfl rfl q1676 (eSame1 rfl) (by decide) rfl rfl rfl rfl (Nat.le_of_ble_eq_true rfl) rfl ?_
  refine z_aload_n C dX4_plays_5 rfl rfl ?_
  refine z_iconst (v := 0) C dX4_plays_6 (by decide) ?_
  refine z_put eK4 0 8 (Γ2 := [eO a 4 [.ref o.sa, .ref o.pa, .ref o.ha, .ref o.xa, .int o.pn, .int 1, .ref o.ta, .int (nI tx.length), .int 0, .int o.fr, .int o.re, .int o.ca, .int o.os, .int o.od, .ref o.na], eIA E o.sa 311 f, eIA E o.pa 1244 h, eIA E o.ta 60 tf, eIA E o.na 3 nf, rs]) C dX4_plays_7 rfl rfl q1679 (eSame1 rfl) (by decide) rfl rfl rfl rfl (Nat.le_of_ble_eq_true rfl) rfl ?_
  refine z_aload_n C dX4_plays_10 rfl rfl ?_
  refine z_iconst (v := 0) C dX4_plays_11 (by decide) ?_
  refine z_put eK4 0 9 (Γ2 := [eO a 4 [.ref o.sa, .ref o.pa, .ref o.ha, .ref o.xa, .int o.pn, .int 1, .ref o.ta, .int (nI tx.length), .int 0, .int 0, .int o.re, .int o.ca, .int o.os, .int o.od, .ref o.na], eIA E o.sa 311 f, eIA E o.pa 1244 h, eIA E o.ta 60 tf, eIA E o.na 3 nf, rs]) C dX4_plays_12 rfl rfl q1680 (eSame1 rfl) (by decide) rfl rfl rfl rfl (Nat.le_of_ble_eq_true rfl) rfl ?_
  refine z_aload_n C dX4_plays_15 rfl rfl ?_
  refine z_iconst (v := 0) C dX4_plays_16 (by decide) ?_
  refine z_put eK4 0 12 (Γ2 := [eO a 4 [.ref o.sa, .ref o.pa, .ref o.ha, .ref o.xa, .int o.pn, .int 1, .ref o.ta, .int (nI tx.length), .int 0, .int 0, .int o.re, .int o.ca, .int 0, .int o.od, .ref o.na], eIA E o.sa 311 f, eIA E o.pa 1244 h, eIA E o.ta 60 tf, eIA E o.na 3 nf, rs]) C dX4_plays_17 rfl rfl q1683 (eSame1 rfl) (by decide) rfl rfl rfl rfl (Nat.le_of_ble_eq_true rfl) rfl ?_
  refine z_iconst (v := 1) C dX4_plays_20 (by decide) ?_
  refine z_istore_n (L2 := [some (.ref a), some (.int 1), none, none]) C dX4_plays_21 rfl (Nat.le_of_ble_eq_true rfl) rfl ?_
  have F : ∀ (p : Nat) (fr re ca mn od pn1 : Int32) (f1 h1 nf1 : Nat → Int32), (gWl tx A).2.1 ≠ 0 → (gWl tx A).1 = fr → (gWl tx A).2.1 = re → (gWl tx A).2.2.1 = ca → Rep f1 (gWl tx A).2.2.2.2.2 → rH h1 pn1 hs → eZ x E Q_ [eO a 4 [.ref o.sa, .ref o.pa, .ref o.ha, .ref o.xa, .int pn1, .int 1, .ref o.ta, .int (nI tx.length), .int (nI p), .int fr, .int re, .int ca, .int mn, .int od, .ref o.na], eIA E o.sa 311 f1, eIA E o.pa 1244 h1, eIA E o.ta 60 tf, eIA E o.na 3 nf1, rs] 22 [some (.ref a), some (.int 0), none, none] [] 0 0 := by
    intro p fr re ca mn od pn1 f1 h1 nf1 hne hfr hre hca R1 hH1
    refine z_aload_n C dX4_plays_22 rfl rfl ?_
    refine z_get eK4 0 8 C dX4_plays_23 rfl rfl q1679 (eSame1 rfl) (by decide) rfl ?_
    refine z_aload_n C dX4_plays_26 rfl rfl ?_
    refine z_get eK4 0 7 C dX4_plays_27 rfl rfl q1678 (eSame1 rfl) (by decide) rfl ?_
    refine z_icmp_ge 124 C dX4_plays_30 (by decide) (fun k1 => ?_) (fun k1 => ?_)
    · refine z_aload_n C dX4_plays_124 rfl rfl ?_
      refine z_iconst (v := 0) C dX4_plays_125 (by decide) ?_
      refine z_put eK4 0 5 (Γ2 := [eO a 4 [.ref o.sa, .ref o.pa, .ref o.ha, .ref o.xa, .int pn1, .int 0, .ref o.ta, .int (nI tx.length), .int (nI p), .int fr, .int re, .int ca, .int mn, .int od, .ref o.na], eIA E o.sa 311 f1, eIA E o.pa 1244 h1, eIA E o.ta 60 tf, eIA E o.na 3 nf1, rs]) C dX4_plays_126 rfl rfl q1676 (eSame1 rfl) (by decide) rfl rfl rfl rfl (Nat.le_of_ble_eq_true rfl) rfl ?_
      refine z_iload_n C dX4_plays_129 rfl rfl ?_
      refine z_go (Γ' := [eO a 4 [.ref o.sa, .ref o.pa, .ref o.ha, .ref o.xa, .int pn1, .int 0, .ref o.ta, .int o.ty, .int (nI p), .int fr, .int re, .int ca, .int mn, .int od, .ref o.na], eIA E o.sa 311 f1, eIA E o.pa 1244 h1, eIA E o.ta 60 tf, eIA E o.na 3 nf1, rs]) (by rw [← hT.1]) ?_
      show eZ x E _ [eO a 4 [.ref o.sa, .ref o.pa, .ref o.ha, .ref o.xa, .int pn1, .int 0, .ref o.ta, .int o.ty, .int (nI p), .int fr, .int re, .int ca, .int mn, .int od, .ref o.na], eIA E o.sa 311 f1, eIA E o.pa 1244 h1, eIA E o.ta 60 tf, eIA E o.na 3 nf1, rs] 130 [some (.ref a), some (.int 0), none, none] [.int 0] 0 0
      subst hQ_
      exact z_ret (Γ := [eO a 4 [.ref o.sa, .ref o.pa, .ref o.ha, .ref o.xa, .int pn1, .int 0, .ref o.ta, .int o.ty, .int (nI p), .int fr, .int re, .int ca, .int mn, .int od, .ref o.na], eIA E o.sa 311 f1, eIA E o.pa 1244 h1, eIA E o.ta 60 tf, eIA E o.na 3 nf1]) C dX4_plays_130 rfl (by decide) (Nat.le_of_ble_eq_true rfl) (Nat.le_of_ble_eq_true rfl) ⟨f1, h1, nf1, pn1, nI p, fr, re, ca, mn, od, by rw [show decide ((gWl tx A).2.1 = 0) = false from decide_eq_false hne]; rfl, rfl, R1, hH1, fun h => absurd h hne, fun _ => ⟨hfr.symm, hre.symm, hca.symm⟩⟩
    · refine z_iload_n C dX4_plays_33 rfl rfl ?_
      refine z_if_eq 124 C dX4_plays_34 (by decide) (fun h_ => ?_) (fun h_ => absurd h_ (not_not_intro rfl))
      refine z_aload_n C dX4_plays_124 rfl rfl ?_
      refine z_iconst (v := 0) C dX4_plays_125 (by decide) ?_
      refine z_put eK4 0 5 (Γ2 := [eO a 4 [.ref o.sa, .ref o.pa, .ref o.ha, .ref o.xa, .int pn1, .int 0, .ref o.ta, .int (nI tx.length), .int (nI p), .int fr, .int re, .int ca, .int mn, .int od, .ref o.na], eIA E o.sa 311 f1, eIA E o.pa 1244 h1, eIA E o.ta 60 tf, eIA E o.na 3 nf1, rs]) C dX4_plays_126 rfl rfl q1676 (eSame1 rfl) (by decide) rfl rfl rfl rfl (Nat.le_of_ble_eq_true rfl) rfl ?_
      refine z_iload_n C dX4_plays_129 rfl rfl ?_
      refine z_go (Γ' := [eO a 4 [.ref o.sa, .ref o.pa, .ref o.ha, .ref o.xa, .int pn1, .int 0, .ref o.ta, .int o.ty, .int (nI p), .int fr, .int re, .int ca, .int mn, .int od, .ref o.na], eIA E o.sa 311 f1, eIA E o.pa 1244 h1, eIA E o.ta 60 tf, eIA E o.na 3 nf1, rs]) (by rw [← hT.1]) ?_
      show eZ x E _ [eO a 4 [.ref o.sa, .ref o.pa, .ref o.ha, .ref o.xa, .int pn1, .int 0, .ref o.ta, .int o.ty, .int (nI p), .int fr, .int re, .int ca, .int mn, .int od, .ref o.na], eIA E o.sa 311 f1, eIA E o.pa 1244 h1, eIA E o.ta 60 tf, eIA E o.na 3 nf1, rs] 130 [some (.ref a), some (.int 0), none, none] [.int 0] 0 0
      subst hQ_
      exact z_ret (Γ := [eO a 4 [.ref o.sa, .ref o.pa, .ref o.ha, .ref o.xa, .int pn1, .int 0, .ref o.ta, .int o.ty, .int (nI p), .int fr, .int re, .int ca, .int mn, .int od, .ref o.na], eIA E o.sa 311 f1, eIA E o.pa 1244 h1, eIA E o.ta 60 tf, eIA E o.na 3 nf1]) C dX4_plays_130 rfl (by decide) (Nat.le_of_ble_eq_true rfl) (Nat.le_of_ble_eq_true rfl) ⟨f1, h1, nf1, pn1, nI p, fr, re, ca, mn, od, by rw [show decide ((gWl tx A).2.1 = 0) = false from decide_eq_false hne]; rfl, rfl, R1, hH1, fun h => absurd h hne, fun _ => ⟨hfr.symm, hre.symm, hca.symm⟩⟩
  have K : ∀ (d p : Nat) (be fr re ca mn od pn1 : Int32) (f1 h1 nf1 : Nat → Int32) (A1 : Am), p ≤ tx.length → tx.length ≤ p + d → gWell tx d (be, 0, 0, p, mn, A1) = gWl tx A → gOk A1 → gWf A1 → Rep f1 A1 → rH h1 pn1 hs → eZ x E Q_ [eO a 4 [.ref o.sa, .ref o.pa, .ref o.ha, .ref o.xa, .int pn1, .int 1, .ref o.ta, .int (nI tx.length), .int (nI p), .int fr, .int re, .int ca, .int mn, .int od, .ref o.na], eIA E o.sa 311 f1, eIA E o.pa 1244 h1, eIA E o.ta 60 tf, eIA E o.na 3 nf1, rs] 22 [some (.ref a), some (.int 1), none, none] [] 0 0 := by
    intro d
    induction d with
    | zero =>
        intro p be fr re ca mn od pn1 f1 h1 nf1 A1 hp hd hR hok1 hwf1 R1 hH1
        refine z_aload_n C dX4_plays_22 rfl rfl ?_
        refine z_get eK4 0 8 C dX4_plays_23 rfl rfl q1679 (eSame1 rfl) (by decide) rfl ?_
        refine z_aload_n C dX4_plays_26 rfl rfl ?_
        refine z_get eK4 0 7 C dX4_plays_27 rfl rfl q1678 (eSame1 rfl) (by decide) rfl ?_
        refine z_icmp_ge 124 C dX4_plays_30 (by decide) (fun h_ => ?_) (fun h_ => absurd h_ (absurd (by rw [show p = tx.length by omega]; exact Int32.le_refl _) h_))
        have hE : gWl tx A = (be, 0, 0, p, mn, A1) := hR.symm
        refine z_aload_n C dX4_plays_124 rfl rfl ?_
        refine z_iconst (v := 0) C dX4_plays_125 (by decide) ?_
        refine z_put eK4 0 5 (Γ2 := [eO a 4 [.ref o.sa, .ref o.pa, .ref o.ha, .ref o.xa, .int pn1, .int 0, .ref o.ta, .int (nI tx.length), .int (nI p), .int fr, .int re, .int ca, .int mn, .int od, .ref o.na], eIA E o.sa 311 f1, eIA E o.pa 1244 h1, eIA E o.ta 60 tf, eIA E o.na 3 nf1, rs]) C dX4_plays_126 rfl rfl q1676 (eSame1 rfl) (by decide) rfl rfl rfl rfl (Nat.le_of_ble_eq_true rfl) rfl ?_
        refine z_iload_n C dX4_plays_129 rfl rfl ?_
        refine z_go (Γ' := [eO a 4 [.ref o.sa, .ref o.pa, .ref o.ha, .ref o.xa, .int pn1, .int 0, .ref o.ta, .int o.ty, .int (nI p), .int fr, .int re, .int ca, .int mn, .int od, .ref o.na], eIA E o.sa 311 f1, eIA E o.pa 1244 h1, eIA E o.ta 60 tf, eIA E o.na 3 nf1, rs]) (by rw [← hT.1]) ?_
        show eZ x E _ [eO a 4 [.ref o.sa, .ref o.pa, .ref o.ha, .ref o.xa, .int pn1, .int 0, .ref o.ta, .int o.ty, .int (nI p), .int fr, .int re, .int ca, .int mn, .int od, .ref o.na], eIA E o.sa 311 f1, eIA E o.pa 1244 h1, eIA E o.ta 60 tf, eIA E o.na 3 nf1, rs] 130 [some (.ref a), some (.int 1), none, none] [.int 1] 0 0
        subst hQ_
        exact z_ret (Γ := [eO a 4 [.ref o.sa, .ref o.pa, .ref o.ha, .ref o.xa, .int pn1, .int 0, .ref o.ta, .int o.ty, .int (nI p), .int fr, .int re, .int ca, .int mn, .int od, .ref o.na], eIA E o.sa 311 f1, eIA E o.pa 1244 h1, eIA E o.ta 60 tf, eIA E o.na 3 nf1]) C dX4_plays_130 rfl (by decide) (Nat.le_of_ble_eq_true rfl) (Nat.le_of_ble_eq_true rfl) ⟨f1, h1, nf1, pn1, nI p, fr, re, ca, mn, od, by rw [show decide ((gWl tx A).2.1 = 0) = true from by rw [hE]; rfl]; rfl, rfl, by rw [hE]; exact R1, hH1, fun _ => by rw [hE], fun h => absurd (by rw [hE]) h⟩
    | succ d ih =>
        intro p be fr re ca mn od pn1 f1 h1 nf1 A1 hp hd hR hok1 hwf1 R1 hH1
        refine z_aload_n C dX4_plays_22 rfl rfl ?_
        refine z_get eK4 0 8 C dX4_plays_23 rfl rfl q1679 (eSame1 rfl) (by decide) rfl ?_
        refine z_aload_n C dX4_plays_26 rfl rfl ?_
        refine z_get eK4 0 7 C dX4_plays_27 rfl rfl q1678 (eSame1 rfl) (by decide) rfl ?_
        refine z_icmp_ge 124 C dX4_plays_30 (by decide) (fun k1 => ?_) (fun k1 => ?_)
        · have hE : gWl tx A = (be, 0, 0, p, mn, A1) := by rw [← hR]; exact gWell_end (show tx.length ≤ p from (nI_leI (a := tx.length) (b := p) (by omega) (by omega)).mp k1)
          refine z_aload_n C dX4_plays_124 rfl rfl ?_
          refine z_iconst (v := 0) C dX4_plays_125 (by decide) ?_
          refine z_put eK4 0 5 (Γ2 := [eO a 4 [.ref o.sa, .ref o.pa, .ref o.ha, .ref o.xa, .int pn1, .int 0, .ref o.ta, .int (nI tx.length), .int (nI p), .int fr, .int re, .int ca, .int mn, .int od, .ref o.na], eIA E o.sa 311 f1, eIA E o.pa 1244 h1, eIA E o.ta 60 tf, eIA E o.na 3 nf1, rs]) C dX4_plays_126 rfl rfl q1676 (eSame1 rfl) (by decide) rfl rfl rfl rfl (Nat.le_of_ble_eq_true rfl) rfl ?_
          refine z_iload_n C dX4_plays_129 rfl rfl ?_
          refine z_go (Γ' := [eO a 4 [.ref o.sa, .ref o.pa, .ref o.ha, .ref o.xa, .int pn1, .int 0, .ref o.ta, .int o.ty, .int (nI p), .int fr, .int re, .int ca, .int mn, .int od, .ref o.na], eIA E o.sa 311 f1, eIA E o.pa 1244 h1, eIA E o.ta 60 tf, eIA E o.na 3 nf1, rs]) (by rw [← hT.1]) ?_
          show eZ x E _ [eO a 4 [.ref o.sa, .ref o.pa, .ref o.ha, .ref o.xa, .int pn1, .int 0, .ref o.ta, .int o.ty, .int (nI p), .int fr, .int re, .int ca, .int mn, .int od, .ref o.na], eIA E o.sa 311 f1, eIA E o.pa 1244 h1, eIA E o.ta 60 tf, eIA E o.na 3 nf1, rs] 130 [some (.ref a), some (.int 1), none, none] [.int 1] 0 0
          subst hQ_
          exact z_ret (Γ := [eO a 4 [.ref o.sa, .ref o.pa, .ref o.ha, .ref o.xa, .int pn1, .int 0, .ref o.ta, .int o.ty, .int (nI p), .int fr, .int re, .int ca, .int mn, .int od, .ref o.na], eIA E o.sa 311 f1, eIA E o.pa 1244 h1, eIA E o.ta 60 tf, eIA E o.na 3 nf1]) C dX4_plays_130 rfl (by decide) (Nat.le_of_ble_eq_true rfl) (Nat.le_of_ble_eq_true rfl) ⟨f1, h1, nf1, pn1, nI p, fr, re, ca, mn, od, by rw [show decide ((gWl tx A).2.1 = 0) = true from by rw [hE]; rfl]; rfl, rfl, by rw [hE]; exact R1, hH1, fun _ => by rw [hE], fun h => absurd (by rw [hE]) h⟩
        · have hlt : p < tx.length := by rcases Nat.lt_or_ge p tx.length with h | h; exact h; exact absurd (nI_le h (by omega)) k1
          obtain ⟨ch, hc⟩ : ∃ ch, tx[p]? = some ch := ⟨_, List.getElem?_eq_getElem hlt⟩
          refine z_iload_n C dX4_plays_33 rfl rfl ?_
          refine z_if_eq 124 C dX4_plays_34 (by decide) (fun h_ => absurd h_ (by decide)) (fun h_ => ?_)
          refine z_aload_n C dX4_plays_37 rfl rfl ?_
          refine z_aload_n C dX4_plays_38 rfl rfl ?_
          refine z_get eK4 0 8 C dX4_plays_39 rfl rfl q1679 (eSame1 rfl) (by decide) rfl ?_
          refine z_put eK4 0 9 (Γ2 := [eO a 4 [.ref o.sa, .ref o.pa, .ref o.ha, .ref o.xa, .int pn1, .int 1, .ref o.ta, .int (nI tx.length), .int (nI p), .int (nI p), .int re, .int ca, .int mn, .int od, .ref o.na], eIA E o.sa 311 f1, eIA E o.pa 1244 h1, eIA E o.ta 60 tf, eIA E o.na 3 nf1, rs]) C dX4_plays_42 rfl rfl q1680 (eSame1 rfl) (by decide) rfl rfl rfl rfl (Nat.le_of_ble_eq_true rfl) rfl ?_
          refine z_aload_n C dX4_plays_45 rfl rfl ?_
          rw [gWell_s hc, gOneR_ind tx p ch Zf nf1 A1] at hR
          have hle := gOneR_len (tx := tx) (p := p) (ch := ch) (f := nf1) (A := A1) hlt
          have hpr := gOneR_prog (tx := tx) (p := p) (ch := ch) (f := nf1) (A := A1) hlt
          have hokG := gOneR_ok (tx := tx) (p := p) (ch := ch) (f := nf1) hok1
          have hwfG := gOneR_wf (tx := tx) (p := p) (ch := ch) (f := nf1) hok1 hwf1
          refine z_go (Γ' := [eO a 4 [.ref o.sa, .ref o.pa, .ref o.ha, .ref o.xa, .int pn1, .int 1, .ref o.ta, .int o.ty, .int (nI p), .int (nI p), .int re, .int ca, .int mn, .int od, .ref o.na], eIA E o.sa 311 f1, eIA E o.pa 1244 h1, eIA E o.ta 60 tf, eIA E o.na 3 nf1, rs]) (by rw [← hT.1]) ?_
          show eZ x E _ [eO a 4 [.ref o.sa, .ref o.pa, .ref o.ha, .ref o.xa, .int pn1, .int 1, .ref o.ta, .int o.ty, .int (nI p), .int (nI p), .int re, .int ca, .int mn, .int od, .ref o.na], eIA E o.sa 311 f1, eIA E o.pa 1244 h1, eIA E o.ta 60 tf, eIA E o.na 3 nf1, rs] 46 [some (.ref a), some (.int 1), none, none] [.ref a] 0 0
          refine z_callV (r := (RX4, TX4, 15)) (As := []) (rest := []) (Δ := [eIA E o.sa 311 f1, eIA E o.pa 1244 h1, rs]) [0, 3, 4] [1, 2, 5] 0 (m_Mparses hl E a (o.sa, o.pa, o.ha, o.xa, pn1, 1, o.ta, o.ty, (nI p), (nI p), re, ca, mn, od, o.na) tx tf hT h126 p (Nat.le_of_lt hlt) nf1 ch hc) C dX4_plays_46 rfl rfl (eIn (i := 0) rfl List.mem_cons_self) rfl rfl q1902 q1904 qs43 q67 q1905 (by decide +kernel) rfl (ePm 6 rfl (by decide +kernel)) rfl rfl ⟨Nat.le_of_ble_eq_true rfl, Nat.le_of_ble_eq_true rfl⟩ (Nat.le_trans eS0 (Nat.le_of_ble_eq_true rfl)) ⟨Nat.le_of_ble_eq_true rfl, Nat.le_of_ble_eq_true rfl⟩ (fun v_ Γ_ hp_ => ?_)
          obtain ⟨rfl, rfl⟩ := hp_
          show eZ x E _ [eO a 4 [.ref o.sa, .ref o.pa, .ref o.ha, .ref o.xa, .int pn1, .int 1, .ref o.ta, .int o.ty, .int (nI (gOF tx (gW ch) (gP1 ch p) nf1).2.1), .int (nI p), .int re, .int ca, .int mn, .int (nI (gOd ch)), .ref o.na], eIA E o.ta 60 tf, eIA E o.na 3 ((gOF tx (gW ch) (gP1 ch p) nf1).2.2), eIA E o.sa 311 f1, eIA E o.pa 1244 h1, rs] 49 [some (.ref a), some (.int 1), none, none] [.int (eB (gOF tx (gW ch) (gP1 ch p) nf1).1)] 0 0
          obtain ⟨ok, q, f2, hO⟩ : ∃ ok q f2, gOF tx (gW ch) (gP1 ch p) nf1 = (ok, q, f2) := ⟨_, _, _, rfl⟩
          rw [hO]
          show eZ x E _ [eO a 4 [.ref o.sa, .ref o.pa, .ref o.ha, .ref o.xa, .int pn1, .int 1, .ref o.ta, .int o.ty, .int (nI q), .int (nI p), .int re, .int ca, .int mn, .int (nI (gOd ch)), .ref o.na], eIA E o.ta 60 tf, eIA E o.na 3 f2, eIA E o.sa 311 f1, eIA E o.pa 1244 h1, rs] 49 [some (.ref a), some (.int 1), none, none] [.int (eB ok)] 0 0
          refine z_go (Γ' := [eO a 4 [.ref o.sa, .ref o.pa, .ref o.ha, .ref o.xa, .int pn1, .int 1, .ref o.ta, .int (nI tx.length), .int (nI q), .int (nI p), .int re, .int ca, .int mn, .int (nI (gOd ch)), .ref o.na], eIA E o.ta 60 tf, eIA E o.na 3 f2, eIA E o.sa 311 f1, eIA E o.pa 1244 h1, rs]) (by rw [hT.1]) ?_
          show eZ x E _ [eO a 4 [.ref o.sa, .ref o.pa, .ref o.ha, .ref o.xa, .int pn1, .int 1, .ref o.ta, .int (nI tx.length), .int (nI q), .int (nI p), .int re, .int ca, .int mn, .int (nI (gOd ch)), .ref o.na], eIA E o.ta 60 tf, eIA E o.na 3 f2, eIA E o.sa 311 f1, eIA E o.pa 1244 h1, rs] 49 [some (.ref a), some (.int 1), none, none] [.int (eB ok)] 0 0
          have hq := gOneR_q (A := A1) hO
          rw [hq] at hle hpr
          rcases ok with _ | _
          · show eZ x E _ [eO a 4 [.ref o.sa, .ref o.pa, .ref o.ha, .ref o.xa, .int pn1, .int 1, .ref o.ta, .int (nI tx.length), .int (nI q), .int (nI p), .int re, .int ca, .int mn, .int (nI (gOd ch)), .ref o.na], eIA E o.ta 60 tf, eIA E o.na 3 f2, eIA E o.sa 311 f1, eIA E o.pa 1244 h1, rs] 49 [some (.ref a), some (.int 1), none, none] [.int 0] 0 0
            have hG : gOneR tx p ch nf1 A1 = (1, nI q - nI p, q, 0, A1) := by unfold gOneR; rw [hO]; rfl
            rw [hG, gWell_re (by show (1 : Int32) ≠ 0; decide)] at hR
            refine z_istore_n (L2 := [some (.ref a), some (.int 1), some (.int 0), none]) C dX4_plays_49 rfl (Nat.le_of_ble_eq_true rfl) rfl ?_
            refine z_iload_n C dX4_plays_50 rfl rfl ?_
            refine z_if_eq 61 C dX4_plays_51 (by decide) (fun h_ => ?_) (fun h_ => absurd h_ (not_not_intro rfl))
            refine z_iconst (v := 0) C dX4_plays_61 (by decide) ?_
            refine z_istore_n (L2 := [some (.ref a), some (.int 1), some (.int 0), some (.int 0)]) C dX4_plays_62 rfl (Nat.le_of_ble_eq_true rfl) rfl ?_
            refine z_iload_n C dX4_plays_63 rfl rfl ?_
            refine z_if_eq 75 C dX4_plays_64 (by decide) (fun h_ => ?_) (fun h_ => absurd h_ (not_not_intro rfl))
            refine z_iconst (v := 0) C dX4_plays_75 (by decide) ?_
            refine z_istore_n (L2 := [some (.ref a), some (.int 0), some (.int 0), some (.int 0)]) C dX4_plays_76 rfl (Nat.le_of_ble_eq_true rfl) rfl ?_
            refine z_aload_n C dX4_plays_77 rfl rfl ?_
            refine z_iload_n C dX4_plays_78 rfl rfl ?_
            refine z_if_eq 86 C dX4_plays_79 (by decide) (fun h_ => ?_) (fun h_ => absurd h_ (not_not_intro rfl))
            refine z_iconst (v := 1) C dX4_plays_86 (by decide) ?_
            refine z_put eK4 0 10 (Γ2 := [eO a 4 [.ref o.sa, .ref o.pa, .ref o.ha, .ref o.xa, .int pn1, .int 1, .ref o.ta, .int (nI tx.length), .int (nI q), .int (nI p), .int 1, .int ca, .int mn, .int (nI (gOd ch)), .ref o.na], eIA E o.ta 60 tf, eIA E o.na 3 f2, eIA E o.sa 311 f1, eIA E o.pa 1244 h1, rs]) C dX4_plays_87 rfl rfl q1681 (eSame1 rfl) (by decide) rfl rfl rfl rfl (Nat.le_of_ble_eq_true rfl) rfl ?_
            refine z_aload_n C dX4_plays_90 rfl rfl ?_
            refine z_iload_n C dX4_plays_91 rfl rfl ?_
            refine z_if_eq 99 C dX4_plays_92 (by decide) (fun h_ => ?_) (fun h_ => absurd h_ (not_not_intro rfl))
            refine z_aload_n C dX4_plays_99 rfl rfl ?_
            refine z_get eK4 0 8 C dX4_plays_100 rfl rfl q1679 (eSame1 rfl) (by decide) rfl ?_
            refine z_aload_n C dX4_plays_103 rfl rfl ?_
            refine z_get eK4 0 9 C dX4_plays_104 rfl rfl q1680 (eSame1 rfl) (by decide) rfl ?_
            refine z_isub (w := (nI q) - (nI p)) C dX4_plays_107 rfl ?_
            refine z_put eK4 0 11 (Γ2 := [eO a 4 [.ref o.sa, .ref o.pa, .ref o.ha, .ref o.xa, .int pn1, .int 1, .ref o.ta, .int (nI tx.length), .int (nI q), .int (nI p), .int 1, .int ((nI q) - (nI p)), .int mn, .int (nI (gOd ch)), .ref o.na], eIA E o.ta 60 tf, eIA E o.na 3 f2, eIA E o.sa 311 f1, eIA E o.pa 1244 h1, rs]) C dX4_plays_108 rfl rfl q1682 (eSame1 rfl) (by decide) rfl rfl rfl rfl (Nat.le_of_ble_eq_true rfl) rfl ?_
            refine z_aload_n C dX4_plays_111 rfl rfl ?_
            refine z_dup C dX4_plays_112 rfl ?_
            refine z_get eK4 0 12 C dX4_plays_113 rfl rfl q1683 (eSame1 rfl) (by decide) rfl ?_
            refine z_iconst (v := 1) C dX4_plays_116 (by decide) ?_
            refine z_iadd (w := mn + 1) C dX4_plays_117 rfl ?_
            refine z_put eK4 0 12 (Γ2 := [eO a 4 [.ref o.sa, .ref o.pa, .ref o.ha, .ref o.xa, .int pn1, .int 1, .ref o.ta, .int (nI tx.length), .int (nI q), .int (nI p), .int 1, .int ((nI q) - (nI p)), .int (mn + 1), .int (nI (gOd ch)), .ref o.na], eIA E o.ta 60 tf, eIA E o.na 3 f2, eIA E o.sa 311 f1, eIA E o.pa 1244 h1, rs]) C dX4_plays_118 rfl rfl q1683 (eSame1 rfl) (by decide) rfl rfl rfl rfl (Nat.le_of_ble_eq_true rfl) rfl ?_
            refine z_goto 22 C dX4_plays_121 (by decide) ?_
            refine z_forget (L' := [some (.ref a), some (.int 0), none, none]) ⟨Or.inr rfl, Or.inr rfl, Or.inl rfl, Or.inl rfl, trivial⟩ ?_
            refine z_pick (Γ' := [eO a 4 [.ref o.sa, .ref o.pa, .ref o.ha, .ref o.xa, .int pn1, .int 1, .ref o.ta, .int (nI tx.length), .int (nI q), .int (nI p), .int 1, .int ((nI q) - (nI p)), .int (mn + 1), .int (nI (gOd ch)), .ref o.na], eIA E o.sa 311 f1, eIA E o.pa 1244 h1, eIA E o.ta 60 tf, eIA E o.na 3 f2, rs]) [0, 3, 4, 1, 2, 5] (ePm 6 rfl (by decide +kernel)) rfl ?_
            exact F q (nI p) 1 (nI q - nI p) (mn + 1) _ pn1 f1 h1 f2 (by rw [← hR]; show (1 : Int32) ≠ 0; decide) (by rw [← hR]) (by rw [← hR]) (by rw [← hR]) (by rw [← hR]; exact R1) hH1
          · show eZ x E _ [eO a 4 [.ref o.sa, .ref o.pa, .ref o.ha, .ref o.xa, .int pn1, .int 1, .ref o.ta, .int (nI tx.length), .int (nI q), .int (nI p), .int re, .int ca, .int mn, .int (nI (gOd ch)), .ref o.na], eIA E o.ta 60 tf, eIA E o.na 3 f2, eIA E o.sa 311 f1, eIA E o.pa 1244 h1, rs] 49 [some (.ref a), some (.int 1), none, none] [.int 1] 0 0
            have hW0 : gW ch ≠ 0 := gOF_W (show (gOF tx (gW ch) (gP1 ch p) nf1).1 = true by rw [hO])
            have hod : gOd ch = ch := by have h9 := gW_l ch hW0; unfold gOd; rw [if_pos (by omega)]
            have hrok := gDone_rok (f := f2) hok1 hwf1 hW0
            refine z_go (Γ' := [eO a 4 [.ref o.sa, .ref o.pa, .ref o.ha, .ref o.xa, .int pn1, .int 1, .ref o.ta, .int (nI tx.length), .int (nI q), .int (nI p), .int re, .int ca, .int mn, .int (nI ch), .ref o.na], eIA E o.ta 60 tf, eIA E o.na 3 f2, eIA E o.sa 311 f1, eIA E o.pa 1244 h1, rs]) (by rw [hod]) ?_
            show eZ x E _ [eO a 4 [.ref o.sa, .ref o.pa, .ref o.ha, .ref o.xa, .int pn1, .int 1, .ref o.ta, .int (nI tx.length), .int (nI q), .int (nI p), .int re, .int ca, .int mn, .int (nI ch), .ref o.na], eIA E o.ta 60 tf, eIA E o.na 3 f2, eIA E o.sa 311 f1, eIA E o.pa 1244 h1, rs] 49 [some (.ref a), some (.int 1), none, none] [.int 1] 0 0
            refine z_istore_n (L2 := [some (.ref a), some (.int 1), some (.int 1), none]) C dX4_plays_49 rfl (Nat.le_of_ble_eq_true rfl) rfl ?_
            refine z_iload_n C dX4_plays_50 rfl rfl ?_
            refine z_if_eq 61 C dX4_plays_51 (by decide) (fun h_ => absurd h_ (by decide)) (fun h_ => ?_)
            refine z_aload_n C dX4_plays_54 rfl rfl ?_
            refine z_callV (r := (RX4, TX4, 15)) (As := []) (rest := []) (Δ := [eIA E o.ta 60 tf, rs]) [0, 3, 4, 2] [1, 5] 0 (m_Mdoes hl E a (o.sa, o.pa, o.ha, o.xa, pn1, 1, o.ta, (nI tx.length), nI q, (nI p), re, ca, mn, nI ch, o.na) f1 A1 hok1 hwf1 R1 h1 hs hH1 hoks (Or.inr rfl) f2 ch hW0) C dX4_plays_55 rfl rfl (eIn (i := 0) rfl List.mem_cons_self) rfl rfl q1921 q1923 qs47 q67 q1924 (by decide +kernel) rfl (ePm 6 rfl (by decide +kernel)) rfl rfl ⟨Nat.le_of_ble_eq_true rfl, Nat.le_of_ble_eq_true rfl⟩ (Nat.le_trans eS0 (Nat.le_of_ble_eq_true rfl)) ⟨Nat.le_of_ble_eq_true rfl, Nat.le_of_ble_eq_true rfl⟩ (fun v_ Γ_ hp_ => ?_)
            obtain ⟨f3, h3, pn2, rfl, rfl, R3, hH3⟩ := hp_
            rw [gHr_1] at hH3
            show eZ x E _ [eO a 4 [.ref o.sa, .ref o.pa, .ref o.ha, .ref o.xa, .int pn2, .int 1, .ref o.ta, .int (nI tx.length), .int (nI q), .int (nI p), .int re, .int ca, .int mn, .int (nI ch), .ref o.na], eIA E o.sa 311 f3, eIA E o.pa 1244 h3, eIA E o.na 3 f2, eIA E o.ta 60 tf, rs] 58 [some (.ref a), some (.int 1), some (.int 1), none] [.int (gRv (gDone (nI ch) A1 f2))] 0 0
            have hG : gOneR tx p ch nf1 A1 = match gDone (nI ch) A1 f2 with | .inl code => ((2 : Int32), code, q, (0 : Int32), A1) | .inr (_, A2) => (0, 0, q, 1, A2) := by unfold gOneR; rw [hO]; rfl
            rcases hr : gDone (nI ch) A1 f2 with code | ⟨v, M⟩
            · rw [hr] at R3 hrok hG
              show eZ x E _ [eO a 4 [.ref o.sa, .ref o.pa, .ref o.ha, .ref o.xa, .int pn2, .int 1, .ref o.ta, .int (nI tx.length), .int (nI q), .int (nI p), .int re, .int ca, .int mn, .int (nI ch), .ref o.na], eIA E o.sa 311 f3, eIA E o.pa 1244 h3, eIA E o.na 3 f2, eIA E o.ta 60 tf, rs] 58 [some (.ref a), some (.int 1), some (.int 1), none] [.int code] 0 0
              rw [hG] at hR hpr hokG hwfG
              refine z_goto 62 C dX4_plays_58 (by decide) ?_
              refine z_istore_n (L2 := [some (.ref a), some (.int 1), some (.int 1), some (.int code)]) C dX4_plays_62 rfl (Nat.le_of_ble_eq_true rfl) rfl ?_
              refine z_iload_n C dX4_plays_63 rfl rfl ?_
              refine z_if_eq 75 C dX4_plays_64 (by decide) (fun h_ => absurd h_ (by decide)) (fun h_ => ?_)
              refine z_iload_n C dX4_plays_67 rfl rfl ?_
              refine z_if_lt 75 C dX4_plays_68 (by decide) (fun h_ => ?_) (fun h_ => absurd h_ (absurd hrok h_))
              refine z_iconst (v := 0) C dX4_plays_75 (by decide) ?_
              refine z_istore_n (L2 := [some (.ref a), some (.int 0), some (.int 1), some (.int code)]) C dX4_plays_76 rfl (Nat.le_of_ble_eq_true rfl) rfl ?_
              refine z_aload_n C dX4_plays_77 rfl rfl ?_
              refine z_iload_n C dX4_plays_78 rfl rfl ?_
              refine z_if_eq 86 C dX4_plays_79 (by decide) (fun h_ => absurd h_ (by decide)) (fun h_ => ?_)
              refine z_iconst (v := 2) C dX4_plays_82 (by decide) ?_
              refine z_goto 87 C dX4_plays_83 (by decide) ?_
              refine z_put eK4 0 10 (Γ2 := [eO a 4 [.ref o.sa, .ref o.pa, .ref o.ha, .ref o.xa, .int pn2, .int 1, .ref o.ta, .int (nI tx.length), .int (nI q), .int (nI p), .int 2, .int ca, .int mn, .int (nI ch), .ref o.na], eIA E o.sa 311 f3, eIA E o.pa 1244 h3, eIA E o.na 3 f2, eIA E o.ta 60 tf, rs]) C dX4_plays_87 rfl rfl q1681 (eSame1 rfl) (by decide) rfl rfl rfl rfl (Nat.le_of_ble_eq_true rfl) rfl ?_
              refine z_aload_n C dX4_plays_90 rfl rfl ?_
              refine z_iload_n C dX4_plays_91 rfl rfl ?_
              refine z_if_eq 99 C dX4_plays_92 (by decide) (fun h_ => absurd h_ (by decide)) (fun h_ => ?_)
              refine z_iload_n C dX4_plays_95 rfl rfl ?_
              refine z_goto 108 C dX4_plays_96 (by decide) ?_
              refine z_put eK4 0 11 (Γ2 := [eO a 4 [.ref o.sa, .ref o.pa, .ref o.ha, .ref o.xa, .int pn2, .int 1, .ref o.ta, .int (nI tx.length), .int (nI q), .int (nI p), .int 2, .int code, .int mn, .int (nI ch), .ref o.na], eIA E o.sa 311 f3, eIA E o.pa 1244 h3, eIA E o.na 3 f2, eIA E o.ta 60 tf, rs]) C dX4_plays_108 rfl rfl q1682 (eSame1 rfl) (by decide) rfl rfl rfl rfl (Nat.le_of_ble_eq_true rfl) rfl ?_
              refine z_aload_n C dX4_plays_111 rfl rfl ?_
              refine z_dup C dX4_plays_112 rfl ?_
              refine z_get eK4 0 12 C dX4_plays_113 rfl rfl q1683 (eSame1 rfl) (by decide) rfl ?_
              refine z_iconst (v := 1) C dX4_plays_116 (by decide) ?_
              refine z_iadd (w := mn + 1) C dX4_plays_117 rfl ?_
              refine z_put eK4 0 12 (Γ2 := [eO a 4 [.ref o.sa, .ref o.pa, .ref o.ha, .ref o.xa, .int pn2, .int 1, .ref o.ta, .int (nI tx.length), .int (nI q), .int (nI p), .int 2, .int code, .int (mn + 1), .int (nI ch), .ref o.na], eIA E o.sa 311 f3, eIA E o.pa 1244 h3, eIA E o.na 3 f2, eIA E o.ta 60 tf, rs]) C dX4_plays_118 rfl rfl q1683 (eSame1 rfl) (by decide) rfl rfl rfl rfl (Nat.le_of_ble_eq_true rfl) rfl ?_
              refine z_goto 22 C dX4_plays_121 (by decide) ?_
              refine z_forget (L' := [some (.ref a), some (.int 0), none, none]) ⟨Or.inr rfl, Or.inr rfl, Or.inl rfl, Or.inl rfl, trivial⟩ ?_
              refine z_pick (Γ' := [eO a 4 [.ref o.sa, .ref o.pa, .ref o.ha, .ref o.xa, .int pn2, .int 1, .ref o.ta, .int (nI tx.length), .int (nI q), .int (nI p), .int 2, .int code, .int (mn + 1), .int (nI ch), .ref o.na], eIA E o.sa 311 f3, eIA E o.pa 1244 h3, eIA E o.ta 60 tf, eIA E o.na 3 f2, rs]) [0, 1, 2, 4, 3, 5] (ePm 6 rfl (by decide +kernel)) rfl ?_
              have hR2 := hR
              rw [gWell_re (by show (2 : Int32) ≠ 0; decide)] at hR2
              exact F q (nI p) 2 code (mn + 1) _ pn2 f3 h3 f2 (by rw [← hR2]; show (2 : Int32) ≠ 0; decide) (by rw [← hR2]) (by rw [← hR2]) (by rw [← hR2]) (by rw [← hR2]; exact R3) hH3
            · rw [hr] at R3 hrok hG
              show eZ x E _ [eO a 4 [.ref o.sa, .ref o.pa, .ref o.ha, .ref o.xa, .int pn2, .int 1, .ref o.ta, .int (nI tx.length), .int (nI q), .int (nI p), .int re, .int ca, .int mn, .int (nI ch), .ref o.na], eIA E o.sa 311 f3, eIA E o.pa 1244 h3, eIA E o.na 3 f2, eIA E o.ta 60 tf, rs] 58 [some (.ref a), some (.int 1), some (.int 1), none] [.int v] 0 0
              rw [hG] at hR hpr hokG hwfG
              refine z_goto 62 C dX4_plays_58 (by decide) ?_
              refine z_istore_n (L2 := [some (.ref a), some (.int 1), some (.int 1), some (.int v)]) C dX4_plays_62 rfl (Nat.le_of_ble_eq_true rfl) rfl ?_
              refine z_iload_n C dX4_plays_63 rfl rfl ?_
              refine z_if_eq 75 C dX4_plays_64 (by decide) (fun h_ => absurd h_ (by decide)) (fun h_ => ?_)
              refine z_iload_n C dX4_plays_67 rfl rfl ?_
              refine z_if_lt 75 C dX4_plays_68 (by decide) (fun h_ => absurd h_ (Int32.not_lt.mpr hrok.1)) (fun h_ => ?_)
              refine z_iconst (v := 1) C dX4_plays_71 (by decide) ?_
              refine z_goto 76 C dX4_plays_72 (by decide) ?_
              refine z_istore_n (L2 := [some (.ref a), some (.int 1), some (.int 1), some (.int v)]) C dX4_plays_76 rfl (Nat.le_of_ble_eq_true rfl) rfl ?_
              refine z_aload_n C dX4_plays_77 rfl rfl ?_
              refine z_iload_n C dX4_plays_78 rfl rfl ?_
              refine z_if_eq 86 C dX4_plays_79 (by decide) (fun h_ => absurd h_ (by decide)) (fun h_ => ?_)
              refine z_iconst (v := 2) C dX4_plays_82 (by decide) ?_
              refine z_goto 87 C dX4_plays_83 (by decide) ?_
              refine z_put eK4 0 10 (Γ2 := [eO a 4 [.ref o.sa, .ref o.pa, .ref o.ha, .ref o.xa, .int pn2, .int 1, .ref o.ta, .int (nI tx.length), .int (nI q), .int (nI p), .int 2, .int ca, .int mn, .int (nI ch), .ref o.na], eIA E o.sa 311 f3, eIA E o.pa 1244 h3, eIA E o.na 3 f2, eIA E o.ta 60 tf, rs]) C dX4_plays_87 rfl rfl q1681 (eSame1 rfl) (by decide) rfl rfl rfl rfl (Nat.le_of_ble_eq_true rfl) rfl ?_
              refine z_aload_n C dX4_plays_90 rfl rfl ?_
              refine z_iload_n C dX4_plays_91 rfl rfl ?_
              refine z_if_eq 99 C dX4_plays_92 (by decide) (fun h_ => absurd h_ (by decide)) (fun h_ => ?_)
              refine z_iload_n C dX4_plays_95 rfl rfl ?_
              refine z_goto 108 C dX4_plays_96 (by decide) ?_
              refine z_put eK4 0 11 (Γ2 := [eO a 4 [.ref o.sa, .ref o.pa, .ref o.ha, .ref o.xa, .int pn2, .int 1, .ref o.ta, .int (nI tx.length), .int (nI q), .int (nI p), .int 2, .int v, .int mn, .int (nI ch), .ref o.na], eIA E o.sa 311 f3, eIA E o.pa 1244 h3, eIA E o.na 3 f2, eIA E o.ta 60 tf, rs]) C dX4_plays_108 rfl rfl q1682 (eSame1 rfl) (by decide) rfl rfl rfl rfl (Nat.le_of_ble_eq_true rfl) rfl ?_
              refine z_aload_n C dX4_plays_111 rfl rfl ?_
              refine z_dup C dX4_plays_112 rfl ?_
              refine z_get eK4 0 12 C dX4_plays_113 rfl rfl q1683 (eSame1 rfl) (by decide) rfl ?_
              refine z_iconst (v := 1) C dX4_plays_116 (by decide) ?_
              refine z_iadd (w := mn + 1) C dX4_plays_117 rfl ?_
              refine z_put eK4 0 12 (Γ2 := [eO a 4 [.ref o.sa, .ref o.pa, .ref o.ha, .ref o.xa, .int pn2, .int 1, .ref o.ta, .int (nI tx.length), .int (nI q), .int (nI p), .int 2, .int v, .int (mn + 1), .int (nI ch), .ref o.na], eIA E o.sa 311 f3, eIA E o.pa 1244 h3, eIA E o.na 3 f2, eIA E o.ta 60 tf, rs]) C dX4_plays_118 rfl rfl q1683 (eSame1 rfl) (by decide) rfl rfl rfl rfl (Nat.le_of_ble_eq_true rfl) rfl ?_
              refine z_goto 22 C dX4_plays_121 (by decide) ?_
              refine z_forget (L' := [some (.ref a), some (.int 1), none, none]) ⟨Or.inr rfl, Or.inr rfl, Or.inl rfl, Or.inl rfl, trivial⟩ ?_
              refine z_pick (Γ' := [eO a 4 [.ref o.sa, .ref o.pa, .ref o.ha, .ref o.xa, .int pn2, .int 1, .ref o.ta, .int (nI tx.length), .int (nI q), .int (nI p), .int 2, .int v, .int (mn + 1), .int (nI ch), .ref o.na], eIA E o.sa 311 f3, eIA E o.pa 1244 h3, eIA E o.ta 60 tf, eIA E o.na 3 f2, rs]) [0, 1, 2, 4, 3, 5] (ePm 6 rfl (by decide +kernel)) rfl ?_
              have hq9 := hpr rfl
              exact ih q (nI p) (nI p) 2 v (mn + 1) _ pn2 f3 h3 f2 M hle.2 (by omega) hR hokG hwfG R3 hH3
  exact K tx.length 0 0 0 o.re o.ca 0 o.od o.pn f h nf A (Nat.zero_le _) (by omega) rfl hok hwf R hH
