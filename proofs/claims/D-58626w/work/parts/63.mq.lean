/-! ===== the model: what there is, what would be ===== -/
set_option maxRecDepth 100000
theorem nI_sb_ (n k : Nat) : nI (n + k) - nI k = nI n := by rw [← nI_add]; exact Int32.add_sub_cancel _ _
theorem gDiv_ne (v : Int32) : gDiv v ≠ 0 := by unfold gDiv; split; decide; split <;> decide

set_option maxHeartbeats 4000000 in
theorem m_Mshared {l : Launch} (hl : l.stackTraces = false) (E : eEn) (v : Int32) : eMet l E yX4_shared (ws_ yX4_shared cX4_shared 1 (some .int)) ({ frames := 0, cells := 0, slots := 0, locals := 0 }) [.int v] [] (fun w Γ => w = some (.int (gDiv v)) ∧ Γ = []) := by
  refine eStart (cc := cX4_shared) (nL := 1) (L := [some (.int v)]) hl (by decide) rfl (List.forall_mem_cons.mpr ⟨rfl, (fun _ h => absurd h List.not_mem_nil)⟩) (Nat.le_of_ble_eq_true rfl) ?_
  intro x rs C
  show eZ x E (eQ x E (fun w Γ => w = some (.int (gDiv v)) ∧ Γ = []) rs) [rs] 0 [some (.int v)] [] 0 0
  generalize hQ_ : eQ x E (fun w Γ => w = some (.int (gDiv v)) ∧ Γ = []) rs = Q_
  refine z_iload_n C dX4_shared_0 rfl rfl ?_
  refine z_iconst (v := 4) C dX4_shared_1 (by decide) ?_
  refine z_irem (w := v - v / 4 * 4) C dX4_shared_2 (by decide) rfl ?_
  refine z_if_ne 10 C dX4_shared_3 (by decide) (fun h1 => ?_) (fun h1 => ?_)
  · refine z_iload_n C dX4_shared_10 rfl rfl ?_
    refine z_iconst (v := 2) C dX4_shared_11 (by decide) ?_
    refine z_irem (w := v - v / 2 * 2) C dX4_shared_12 (by decide) rfl ?_
    refine z_if_ne 20 C dX4_shared_13 (by decide) (fun h2 => ?_) (fun h2 => ?_)
    · refine z_iconst (v := 1) C dX4_shared_20 (by decide) ?_
      subst hQ_
      exact z_ret (Γ := []) C dX4_shared_21 rfl rfl (Nat.le_of_ble_eq_true rfl) (Nat.le_of_ble_eq_true rfl) ⟨by rw [gDiv, if_neg h1, if_neg h2], rfl⟩
    · refine z_iconst (v := 2) C dX4_shared_16 (by decide) ?_
      refine z_goto 21 C dX4_shared_17 (by decide) ?_
      subst hQ_
      exact z_ret (Γ := []) C dX4_shared_21 rfl rfl (Nat.le_of_ble_eq_true rfl) (Nat.le_of_ble_eq_true rfl) ⟨by rw [gDiv, if_neg h1, if_pos h2], rfl⟩
  · refine z_iconst (v := 4) C dX4_shared_6 (by decide) ?_
    refine z_goto 21 C dX4_shared_7 (by decide) ?_
    subst hQ_
    exact z_ret (Γ := []) C dX4_shared_21 rfl rfl (Nat.le_of_ble_eq_true rfl) (Nat.le_of_ble_eq_true rfl) ⟨by rw [gDiv, if_pos h1], rfl⟩

set_option maxHeartbeats 4000000 in
theorem m_Mlane {l : Launch} (hl : l.stackTraces = false) (E : eEn) (a : Nat) (o : Mo) (f : Nat → Int32) (A : Am) (hok : gOk A) (hwf : gWf A) (R : Rep f A) (ln w : Int32) : eMet l E yX4_lane (ws_ yX4_lane cX4_lane 4 (some .int)) ({ frames := 2, cells := 0, slots := 0, locals := 44 }) [.ref a, .int ln, .int w] [eO a 4 [.ref o.sa, .ref o.pa, .ref o.ha, .ref o.xa, .int o.pn, .int o.ru, .ref o.ta, .int o.ty, .int o.sp, .int o.fr, .int o.re, .int o.ca, .int o.os, .int o.od, .ref o.na], eIA E o.sa 311 f] (fun w_ Γ => w_ = some (.int (gLaneQ A ln w)) ∧ Γ = [eMO a o, eIA E o.sa 311 f]) := by
  refine eStart (cc := cX4_lane) (nL := 4) (L := [some (.ref a), some (.int ln), some (.int w), none]) hl (by decide) rfl (List.forall_mem_cons.mpr ⟨rfl, (List.forall_mem_cons.mpr ⟨rfl, (List.forall_mem_cons.mpr ⟨rfl, (fun _ h => absurd h List.not_mem_nil)⟩)⟩)⟩) (Nat.le_of_ble_eq_true rfl) ?_
  intro x rs C
  show eZ x E (eQ x E (fun w_ Γ => w_ = some (.int (gLaneQ A ln w)) ∧ Γ = [eMO a o, eIA E o.sa 311 f]) rs) [eO a 4 [.ref o.sa, .ref o.pa, .ref o.ha, .ref o.xa, .int o.pn, .int o.ru, .ref o.ta, .int o.ty, .int o.sp, .int o.fr, .int o.re, .int o.ca, .int o.os, .int o.od, .ref o.na], eIA E o.sa 311 f, rs] 0 [some (.ref a), some (.int ln), some (.int w), none] [] 0 0
  generalize hQ_ : eQ x E (fun w_ Γ => w_ = some (.int (gLaneQ A ln w)) ∧ Γ = [eMO a o, eIA E o.sa 311 f]) rs = Q_
  refine z_iload_n C dX4_lane_0 rfl rfl ?_
  refine z_callS (As := [.int ln]) (rest := []) (Δ := [eO a 4 [.ref o.sa, .ref o.pa, .ref o.ha, .ref o.xa, .int o.pn, .int o.ru, .ref o.ta, .int o.ty, .int o.sp, .int o.fr, .int o.re, .int o.ca, .int o.os, .int o.od, .ref o.na], eIA E o.sa 311 f, rs]) [] [0, 1, 2] 1 (m_MisLane hl E ln) C dX4_lane_1 rfl rfl rfl q1721 q1722 q67 q1723 (by decide +kernel) rfl (ePm 3 rfl (by decide +kernel)) rfl rfl ⟨Nat.le_of_ble_eq_true rfl, Nat.le_of_ble_eq_true rfl⟩ (Nat.le_trans eS0 (Nat.le_of_ble_eq_true rfl)) ⟨Nat.le_of_ble_eq_true rfl, Nat.le_of_ble_eq_true rfl⟩ (fun v_ Γ_ hp_ => ?_)
  obtain ⟨rfl, rfl⟩ := hp_
  show eZ x E _ [eO a 4 [.ref o.sa, .ref o.pa, .ref o.ha, .ref o.xa, .int o.pn, .int o.ru, .ref o.ta, .int o.ty, .int o.sp, .int o.fr, .int o.re, .int o.ca, .int o.os, .int o.od, .ref o.na], eIA E o.sa 311 f, rs] 4 [some (.ref a), some (.int ln), some (.int w), none] [.int (eB (eBt ln 0 3))] 0 0
  refine z_if_eq_B 17 C dX4_lane_4 (by decide) (fun h1 => ?_) (fun h1 => ?_)
  · refine z_ldc C dX4_lane_17 rfl q1727 ?_
    subst hQ_
    exact z_ret (Γ := [eO a 4 [.ref o.sa, .ref o.pa, .ref o.ha, .ref o.xa, .int o.pn, .int o.ru, .ref o.ta, .int o.ty, .int o.sp, .int o.fr, .int o.re, .int o.ca, .int o.os, .int o.od, .ref o.na], eIA E o.sa 311 f]) C dX4_lane_19 rfl rfl (Nat.le_of_ble_eq_true rfl) (Nat.le_of_ble_eq_true rfl) ⟨by rw [gLaneQ, h1]; rfl, rfl⟩
  · refine z_iload_n C dX4_lane_7 rfl rfl ?_
    refine z_iconst (v := 0) C dX4_lane_8 (by decide) ?_
    refine z_bipush (v := 8) C dX4_lane_9 (by decide) ?_
    refine z_callS (As := [.int w, .int 0, .int 8]) (rest := []) (Δ := [eO a 4 [.ref o.sa, .ref o.pa, .ref o.ha, .ref o.xa, .int o.pn, .int o.ru, .ref o.ta, .int o.ty, .int o.sp, .int o.fr, .int o.re, .int o.ca, .int o.os, .int o.od, .ref o.na], eIA E o.sa 311 f, rs]) [] [0, 1, 2] 3 (m_Min hl E w 0 8) C dX4_lane_11 rfl rfl rfl q1724 q1725 q67 q1726 (by decide +kernel) rfl (ePm 3 rfl (by decide +kernel)) rfl rfl ⟨Nat.le_of_ble_eq_true rfl, Nat.le_of_ble_eq_true rfl⟩ (Nat.le_trans eS0 (Nat.le_of_ble_eq_true rfl)) ⟨Nat.le_of_ble_eq_true rfl, Nat.le_of_ble_eq_true rfl⟩ (fun v_ Γ_ hp_ => ?_)
    obtain ⟨rfl, rfl⟩ := hp_
    show eZ x E _ [eO a 4 [.ref o.sa, .ref o.pa, .ref o.ha, .ref o.xa, .int o.pn, .int o.ru, .ref o.ta, .int o.ty, .int o.sp, .int o.fr, .int o.re, .int o.ca, .int o.os, .int o.od, .ref o.na], eIA E o.sa 311 f, rs] 14 [some (.ref a), some (.int ln), some (.int w), none] [.int (eB (eBt w 0 8))] 0 0
    refine z_if_ne_B 20 C dX4_lane_14 (by decide) (fun h2 => ?_) (fun h2 => ?_)
    · have hif : (eBt ln 0 3 && eBt w 0 8) = true := by rw [h1, h2]; rfl
      obtain ⟨N, hN, rfl⟩ := eBt_N (h1)
      have hN4 : N < 4 := Nat.lt_succ_of_le hN
      obtain ⟨⟨lv, gs⟩, hx⟩ : ∃ q_, A.ls[N]? = some q_ := ⟨_, List.getElem?_eq_getElem (by rw [hok.1]; exact hN4)⟩
      have h8 : gs.length ≤ 8 := hok.2.1 _ (List.mem_of_getElem? hx)
      have hz : rZ N gs A.cs A.bs := ⟨hN4, h8, Nat.le_of_eq hok.2.2.1, hok.2.2.2.1⟩
      have R0 : rP f f N lv gs A.cs A.bs (gTF A) A.st := rP_of R hx
      show eZ x E _ [eO a 4 [.ref o.sa, .ref o.pa, .ref o.ha, .ref o.xa, .int o.pn, .int o.ru, .ref o.ta, .int o.ty, .int o.sp, .int o.fr, .int o.re, .int o.ca, .int o.os, .int o.od, .ref o.na], eIA E o.sa 311 f, rs] 20 [some (.ref a), some (.int (nI N)), some (.int w), none] [] 0 0
      have hwx := hwf.1 _ (List.mem_of_getElem? hx)
      have hv : gWfL lv := hwx.1
      have hgs : ∀ g ∈ gs, gEgOk g = true := hwx.2
      have hS := hwf.2.2.1
      have hgL := gL_at hN4 hx
      refine z_bipush (v := 8) C dX4_lane_20 (by decide) ?_
      refine z_aload_n C dX4_lane_22 rfl rfl ?_
      refine z_get eK4 0 0 C dX4_lane_23 rfl rfl q1671 (eSame1 rfl) (by decide) rfl ?_
      refine z_iload_n C dX4_lane_26 rfl rfl ?_
      refine z_callS (As := [.int (nI N)]) (rest := [.ref o.sa, .int 8]) (Δ := [eO a 4 [.ref o.sa, .ref o.pa, .ref o.ha, .ref o.xa, .int o.pn, .int o.ru, .ref o.ta, .int o.ty, .int o.sp, .int o.fr, .int o.re, .int o.ca, .int o.os, .int o.od, .ref o.na], eIA E o.sa 311 f, rs]) [] [0, 1, 2] 1 (m_MlaneAt hl E N) C dX4_lane_27 rfl rfl rfl q1668 q1669 q67 q1670 (by decide +kernel) rfl (ePm 3 rfl (by decide +kernel)) rfl rfl ⟨Nat.le_of_ble_eq_true rfl, Nat.le_of_ble_eq_true rfl⟩ (Nat.le_trans (eSm rfl (eSm rfl eS0)) (Nat.le_of_ble_eq_true rfl)) ⟨Nat.le_of_ble_eq_true rfl, Nat.le_of_ble_eq_true rfl⟩ (fun v_ Γ_ hp_ => ?_)
      obtain ⟨rfl, rfl⟩ := hp_
      show eZ x E _ [eO a 4 [.ref o.sa, .ref o.pa, .ref o.ha, .ref o.xa, .int o.pn, .int o.ru, .ref o.ta, .int o.ty, .int o.sp, .int o.fr, .int o.re, .int o.ca, .int o.os, .int o.od, .ref o.na], eIA E o.sa 311 f, rs] 30 [some (.ref a), some (.int (nI N)), some (.int w), none] [.int (nI (192 + 6 * N)), .ref o.sa, .int 8] 0 0
      refine z_iconst (v := 2) C dX4_lane_30 (by decide) ?_
      refine z_iadd (w := nI (192 + 6 * N + 2)) C dX4_lane_31 (nI_add (192 + 6 * N) 2) ?_
      refine z_iald (m := (192 + 6 * N + 2)) (v := lv.tu) 1 C dX4_lane_32 rfl rfl (by omega) (by decide) (R0.1.2.1 2 (by decide) (by decide)) ?_
      refine z_callS (As := [.int lv.tu]) (rest := [.int 8]) (Δ := [eO a 4 [.ref o.sa, .ref o.pa, .ref o.ha, .ref o.xa, .int o.pn, .int o.ru, .ref o.ta, .int o.ty, .int o.sp, .int o.fr, .int o.re, .int o.ca, .int o.os, .int o.od, .ref o.na], eIA E o.sa 311 f, rs]) [] [0, 1, 2] 1 (m_Mshared hl E lv.tu) C dX4_lane_33 rfl rfl rfl q1826 q1827 q67 q1828 (by decide +kernel) rfl (ePm 3 rfl (by decide +kernel)) rfl rfl ⟨Nat.le_of_ble_eq_true rfl, Nat.le_of_ble_eq_true rfl⟩ (Nat.le_trans (eSm rfl eS0) (Nat.le_of_ble_eq_true rfl)) ⟨Nat.le_of_ble_eq_true rfl, Nat.le_of_ble_eq_true rfl⟩ (fun v_ Γ_ hp_ => ?_)
      obtain ⟨rfl, rfl⟩ := hp_
      show eZ x E _ [eO a 4 [.ref o.sa, .ref o.pa, .ref o.ha, .ref o.xa, .int o.pn, .int o.ru, .ref o.ta, .int o.ty, .int o.sp, .int o.fr, .int o.re, .int o.ca, .int o.os, .int o.od, .ref o.na], eIA E o.sa 311 f, rs] 36 [some (.ref a), some (.int (nI N)), some (.int w), none] [.int (gDiv lv.tu), .int 8] 0 0
      refine z_idiv (w := 8 / gDiv lv.tu) C dX4_lane_36 (gDiv_ne _) rfl ?_
      refine z_istore_n (L2 := [some (.ref a), some (.int (nI N)), some (.int w), some (.int (8 / gDiv lv.tu))]) C dX4_lane_37 rfl (Nat.le_of_ble_eq_true rfl) rfl ?_
      obtain ⟨K, hK, rfl⟩ := eBt_N (h2)
      have hK2 : K < 9 := Nat.lt_succ_of_le hK
      have hK3 : K = 0 ∨ K = 1 ∨ K = 2 ∨ K = 3 ∨ K = 4 ∨ K = 5 ∨ K = 6 ∨ K = 7 ∨ K = 8 := by omega
      rcases hK3 with rfl | rfl | rfl | rfl | rfl | rfl | rfl | rfl | rfl
      · show eZ x E _ [eO a 4 [.ref o.sa, .ref o.pa, .ref o.ha, .ref o.xa, .int o.pn, .int o.ru, .ref o.ta, .int o.ty, .int o.sp, .int o.fr, .int o.re, .int o.ca, .int o.os, .int o.od, .ref o.na], eIA E o.sa 311 f, rs] 38 [some (.ref a), some (.int (nI N)), some (.int (nI 0)), some (.int (8 / gDiv lv.tu))] [] 0 0
        refine z_iload_n C dX4_lane_38 rfl rfl ?_
        refine z_tabOut 126 C dX4_lane_39 (by decide) (by decide) ?_
        refine z_aload_n C dX4_lane_126 rfl rfl ?_
        refine z_get eK4 0 0 C dX4_lane_127 rfl rfl q1671 (eSame1 rfl) (by decide) rfl ?_
        refine z_iload_n C dX4_lane_130 rfl rfl ?_
        refine z_callS (As := [.int (nI N)]) (rest := [.ref o.sa]) (Δ := [eO a 4 [.ref o.sa, .ref o.pa, .ref o.ha, .ref o.xa, .int o.pn, .int o.ru, .ref o.ta, .int o.ty, .int o.sp, .int o.fr, .int o.re, .int o.ca, .int o.os, .int o.od, .ref o.na], eIA E o.sa 311 f, rs]) [] [0, 1, 2] 1 (m_MlaneAt hl E N) C dX4_lane_131 rfl rfl rfl q1668 q1669 q67 q1670 (by decide +kernel) rfl (ePm 3 rfl (by decide +kernel)) rfl rfl ⟨Nat.le_of_ble_eq_true rfl, Nat.le_of_ble_eq_true rfl⟩ (Nat.le_trans (eSm rfl eS0) (Nat.le_of_ble_eq_true rfl)) ⟨Nat.le_of_ble_eq_true rfl, Nat.le_of_ble_eq_true rfl⟩ (fun v_ Γ_ hp_ => ?_)
        obtain ⟨rfl, rfl⟩ := hp_
        show eZ x E _ [eO a 4 [.ref o.sa, .ref o.pa, .ref o.ha, .ref o.xa, .int o.pn, .int o.ru, .ref o.ta, .int o.ty, .int o.sp, .int o.fr, .int o.re, .int o.ca, .int o.os, .int o.od, .ref o.na], eIA E o.sa 311 f, rs] 134 [some (.ref a), some (.int (nI N)), some (.int (nI 0)), some (.int (8 / gDiv lv.tu))] [.int (nI (192 + 6 * N)), .ref o.sa] 0 0
        refine z_iload_n C dX4_lane_134 rfl rfl ?_
        refine z_iadd (w := nI (192 + 6 * N)) C dX4_lane_135 (nI_add (192 + 6 * N) 0) ?_
        refine z_iald (m := (192 + 6 * N)) (v := nI gs.length) 1 C dX4_lane_136 rfl rfl (by omega) (by decide) R0.1.1 ?_
        subst hQ_
        exact z_ret (Γ := [eO a 4 [.ref o.sa, .ref o.pa, .ref o.ha, .ref o.xa, .int o.pn, .int o.ru, .ref o.ta, .int o.ty, .int o.sp, .int o.fr, .int o.re, .int o.ca, .int o.os, .int o.od, .ref o.na], eIA E o.sa 311 f]) C dX4_lane_137 rfl rfl (Nat.le_of_ble_eq_true rfl) (Nat.le_of_ble_eq_true rfl) ⟨by rw [gLaneQ, if_pos hif, hgL, gLaneV, if_pos (by decide)], rfl⟩
      · show eZ x E _ [eO a 4 [.ref o.sa, .ref o.pa, .ref o.ha, .ref o.xa, .int o.pn, .int o.ru, .ref o.ta, .int o.ty, .int o.sp, .int o.fr, .int o.re, .int o.ca, .int o.os, .int o.od, .ref o.na], eIA E o.sa 311 f, rs] 38 [some (.ref a), some (.int (nI N)), some (.int (nI 1)), some (.int (8 / gDiv lv.tu))] [] 0 0
        refine z_iload_n C dX4_lane_38 rfl rfl ?_
        refine z_tabOut 126 C dX4_lane_39 (by decide) (by decide) ?_
        refine z_aload_n C dX4_lane_126 rfl rfl ?_
        refine z_get eK4 0 0 C dX4_lane_127 rfl rfl q1671 (eSame1 rfl) (by decide) rfl ?_
        refine z_iload_n C dX4_lane_130 rfl rfl ?_
        refine z_callS (As := [.int (nI N)]) (rest := [.ref o.sa]) (Δ := [eO a 4 [.ref o.sa, .ref o.pa, .ref o.ha, .ref o.xa, .int o.pn, .int o.ru, .ref o.ta, .int o.ty, .int o.sp, .int o.fr, .int o.re, .int o.ca, .int o.os, .int o.od, .ref o.na], eIA E o.sa 311 f, rs]) [] [0, 1, 2] 1 (m_MlaneAt hl E N) C dX4_lane_131 rfl rfl rfl q1668 q1669 q67 q1670 (by decide +kernel) rfl (ePm 3 rfl (by decide +kernel)) rfl rfl ⟨Nat.le_of_ble_eq_true rfl, Nat.le_of_ble_eq_true rfl⟩ (Nat.le_trans (eSm rfl eS0) (Nat.le_of_ble_eq_true rfl)) ⟨Nat.le_of_ble_eq_true rfl, Nat.le_of_ble_eq_true rfl⟩ (fun v_ Γ_ hp_ => ?_)
        obtain ⟨rfl, rfl⟩ := hp_
        show eZ x E _ [eO a 4 [.ref o.sa, .ref o.pa, .ref o.ha, .ref o.xa, .int o.pn, .int o.ru, .ref o.ta, .int o.ty, .int o.sp, .int o.fr, .int o.re, .int o.ca, .int o.os, .int o.od, .ref o.na], eIA E o.sa 311 f, rs] 134 [some (.ref a), some (.int (nI N)), some (.int (nI 1)), some (.int (8 / gDiv lv.tu))] [.int (nI (192 + 6 * N)), .ref o.sa] 0 0
        refine z_iload_n C dX4_lane_134 rfl rfl ?_
        refine z_iadd (w := nI (192 + 6 * N + 1)) C dX4_lane_135 (nI_add (192 + 6 * N) 1) ?_
        refine z_iald (m := (192 + 6 * N + 1)) (v := lv.li) 1 C dX4_lane_136 rfl rfl (by omega) (by decide) (R0.1.2.1 1 (by decide) (by decide)) ?_
        subst hQ_
        exact z_ret (Γ := [eO a 4 [.ref o.sa, .ref o.pa, .ref o.ha, .ref o.xa, .int o.pn, .int o.ru, .ref o.ta, .int o.ty, .int o.sp, .int o.fr, .int o.re, .int o.ca, .int o.os, .int o.od, .ref o.na], eIA E o.sa 311 f]) C dX4_lane_137 rfl rfl (Nat.le_of_ble_eq_true rfl) (Nat.le_of_ble_eq_true rfl) ⟨by rw [gLaneQ, if_pos hif, hgL, gLaneV, if_neg (by decide), if_pos (by decide)], rfl⟩
      · show eZ x E _ [eO a 4 [.ref o.sa, .ref o.pa, .ref o.ha, .ref o.xa, .int o.pn, .int o.ru, .ref o.ta, .int o.ty, .int o.sp, .int o.fr, .int o.re, .int o.ca, .int o.os, .int o.od, .ref o.na], eIA E o.sa 311 f, rs] 38 [some (.ref a), some (.int (nI N)), some (.int (nI 2)), some (.int (8 / gDiv lv.tu))] [] 0 0
        refine z_iload_n C dX4_lane_38 rfl rfl ?_
        refine z_tabOut 126 C dX4_lane_39 (by decide) (by decide) ?_
        refine z_aload_n C dX4_lane_126 rfl rfl ?_
        refine z_get eK4 0 0 C dX4_lane_127 rfl rfl q1671 (eSame1 rfl) (by decide) rfl ?_
        refine z_iload_n C dX4_lane_130 rfl rfl ?_
        refine z_callS (As := [.int (nI N)]) (rest := [.ref o.sa]) (Δ := [eO a 4 [.ref o.sa, .ref o.pa, .ref o.ha, .ref o.xa, .int o.pn, .int o.ru, .ref o.ta, .int o.ty, .int o.sp, .int o.fr, .int o.re, .int o.ca, .int o.os, .int o.od, .ref o.na], eIA E o.sa 311 f, rs]) [] [0, 1, 2] 1 (m_MlaneAt hl E N) C dX4_lane_131 rfl rfl rfl q1668 q1669 q67 q1670 (by decide +kernel) rfl (ePm 3 rfl (by decide +kernel)) rfl rfl ⟨Nat.le_of_ble_eq_true rfl, Nat.le_of_ble_eq_true rfl⟩ (Nat.le_trans (eSm rfl eS0) (Nat.le_of_ble_eq_true rfl)) ⟨Nat.le_of_ble_eq_true rfl, Nat.le_of_ble_eq_true rfl⟩ (fun v_ Γ_ hp_ => ?_)
        obtain ⟨rfl, rfl⟩ := hp_
        show eZ x E _ [eO a 4 [.ref o.sa, .ref o.pa, .ref o.ha, .ref o.xa, .int o.pn, .int o.ru, .ref o.ta, .int o.ty, .int o.sp, .int o.fr, .int o.re, .int o.ca, .int o.os, .int o.od, .ref o.na], eIA E o.sa 311 f, rs] 134 [some (.ref a), some (.int (nI N)), some (.int (nI 2)), some (.int (8 / gDiv lv.tu))] [.int (nI (192 + 6 * N)), .ref o.sa] 0 0
        refine z_iload_n C dX4_lane_134 rfl rfl ?_
        refine z_iadd (w := nI (192 + 6 * N + 2)) C dX4_lane_135 (nI_add (192 + 6 * N) 2) ?_
        refine z_iald (m := (192 + 6 * N + 2)) (v := lv.tu) 1 C dX4_lane_136 rfl rfl (by omega) (by decide) (R0.1.2.1 2 (by decide) (by decide)) ?_
        subst hQ_
        exact z_ret (Γ := [eO a 4 [.ref o.sa, .ref o.pa, .ref o.ha, .ref o.xa, .int o.pn, .int o.ru, .ref o.ta, .int o.ty, .int o.sp, .int o.fr, .int o.re, .int o.ca, .int o.os, .int o.od, .ref o.na], eIA E o.sa 311 f]) C dX4_lane_137 rfl rfl (Nat.le_of_ble_eq_true rfl) (Nat.le_of_ble_eq_true rfl) ⟨by rw [gLaneQ, if_pos hif, hgL, gLaneV, if_neg (by decide), if_neg (by decide), if_pos (by decide)], rfl⟩
      · show eZ x E _ [eO a 4 [.ref o.sa, .ref o.pa, .ref o.ha, .ref o.xa, .int o.pn, .int o.ru, .ref o.ta, .int o.ty, .int o.sp, .int o.fr, .int o.re, .int o.ca, .int o.os, .int o.od, .ref o.na], eIA E o.sa 311 f, rs] 38 [some (.ref a), some (.int (nI N)), some (.int (nI 3)), some (.int (8 / gDiv lv.tu))] [] 0 0
        refine z_iload_n C dX4_lane_38 rfl rfl ?_
        refine z_tabOut 126 C dX4_lane_39 (by decide) (by decide) ?_
        refine z_aload_n C dX4_lane_126 rfl rfl ?_
        refine z_get eK4 0 0 C dX4_lane_127 rfl rfl q1671 (eSame1 rfl) (by decide) rfl ?_
        refine z_iload_n C dX4_lane_130 rfl rfl ?_
        refine z_callS (As := [.int (nI N)]) (rest := [.ref o.sa]) (Δ := [eO a 4 [.ref o.sa, .ref o.pa, .ref o.ha, .ref o.xa, .int o.pn, .int o.ru, .ref o.ta, .int o.ty, .int o.sp, .int o.fr, .int o.re, .int o.ca, .int o.os, .int o.od, .ref o.na], eIA E o.sa 311 f, rs]) [] [0, 1, 2] 1 (m_MlaneAt hl E N) C dX4_lane_131 rfl rfl rfl q1668 q1669 q67 q1670 (by decide +kernel) rfl (ePm 3 rfl (by decide +kernel)) rfl rfl ⟨Nat.le_of_ble_eq_true rfl, Nat.le_of_ble_eq_true rfl⟩ (Nat.le_trans (eSm rfl eS0) (Nat.le_of_ble_eq_true rfl)) ⟨Nat.le_of_ble_eq_true rfl, Nat.le_of_ble_eq_true rfl⟩ (fun v_ Γ_ hp_ => ?_)
        obtain ⟨rfl, rfl⟩ := hp_
        show eZ x E _ [eO a 4 [.ref o.sa, .ref o.pa, .ref o.ha, .ref o.xa, .int o.pn, .int o.ru, .ref o.ta, .int o.ty, .int o.sp, .int o.fr, .int o.re, .int o.ca, .int o.os, .int o.od, .ref o.na], eIA E o.sa 311 f, rs] 134 [some (.ref a), some (.int (nI N)), some (.int (nI 3)), some (.int (8 / gDiv lv.tu))] [.int (nI (192 + 6 * N)), .ref o.sa] 0 0
        refine z_iload_n C dX4_lane_134 rfl rfl ?_
        refine z_iadd (w := nI (192 + 6 * N + 3)) C dX4_lane_135 (nI_add (192 + 6 * N) 3) ?_
        refine z_iald (m := (192 + 6 * N + 3)) (v := lv.st) 1 C dX4_lane_136 rfl rfl (by omega) (by decide) (R0.1.2.1 3 (by decide) (by decide)) ?_
        subst hQ_
        exact z_ret (Γ := [eO a 4 [.ref o.sa, .ref o.pa, .ref o.ha, .ref o.xa, .int o.pn, .int o.ru, .ref o.ta, .int o.ty, .int o.sp, .int o.fr, .int o.re, .int o.ca, .int o.os, .int o.od, .ref o.na], eIA E o.sa 311 f]) C dX4_lane_137 rfl rfl (Nat.le_of_ble_eq_true rfl) (Nat.le_of_ble_eq_true rfl) ⟨by rw [gLaneQ, if_pos hif, hgL, gLaneV, if_neg (by decide), if_neg (by decide), if_neg (by decide), if_pos (by decide)], rfl⟩
      · show eZ x E _ [eO a 4 [.ref o.sa, .ref o.pa, .ref o.ha, .ref o.xa, .int o.pn, .int o.ru, .ref o.ta, .int o.ty, .int o.sp, .int o.fr, .int o.re, .int o.ca, .int o.os, .int o.od, .ref o.na], eIA E o.sa 311 f, rs] 38 [some (.ref a), some (.int (nI N)), some (.int (nI 4)), some (.int (8 / gDiv lv.tu))] [] 0 0
        refine z_iload_n C dX4_lane_38 rfl rfl ?_
        refine z_tabIn (off := 33) 72 C dX4_lane_39 (by decide) (by decide) (by decide) (by decide) ?_
        refine z_aload_n C dX4_lane_72 rfl rfl ?_
        refine z_iload_n C dX4_lane_73 rfl rfl ?_
        refine z_callV (r := (RX4, TX4, 15)) (As := [.int (nI N)]) (rest := []) (Δ := [rs]) [0, 1] [2] 1 (m_Mseen hl E a o f A.st R.2.2.2.2 hS N hN4 lv gs R0.1) C dX4_lane_74 rfl rfl (eIn (i := 0) rfl List.mem_cons_self) rfl rfl q1781 q1783 qs34 q67 q1784 (by decide +kernel) rfl (ePm 3 rfl (by decide +kernel)) rfl rfl ⟨Nat.le_of_ble_eq_true rfl, Nat.le_of_ble_eq_true rfl⟩ (Nat.le_trans eS0 (Nat.le_of_ble_eq_true rfl)) ⟨Nat.le_of_ble_eq_true rfl, Nat.le_of_ble_eq_true rfl⟩ (fun v_ Γ_ hp_ => ?_)
        obtain ⟨rfl, rfl⟩ := hp_
        show eZ x E _ [eO a 4 [.ref o.sa, .ref o.pa, .ref o.ha, .ref o.xa, .int o.pn, .int o.ru, .ref o.ta, .int o.ty, .int o.sp, .int o.fr, .int o.re, .int o.ca, .int o.os, .int o.od, .ref o.na], eIA E o.sa 311 f, rs] 77 [some (.ref a), some (.int (nI N)), some (.int (nI 4)), some (.int (8 / gDiv lv.tu))] [.int (gSeenS A.st lv.tu)] 0 0
        subst hQ_
        exact z_ret (Γ := [eO a 4 [.ref o.sa, .ref o.pa, .ref o.ha, .ref o.xa, .int o.pn, .int o.ru, .ref o.ta, .int o.ty, .int o.sp, .int o.fr, .int o.re, .int o.ca, .int o.os, .int o.od, .ref o.na], eIA E o.sa 311 f]) C dX4_lane_77 rfl rfl (Nat.le_of_ble_eq_true rfl) (Nat.le_of_ble_eq_true rfl) ⟨by rw [gLaneQ, if_pos hif, hgL, gLaneV, if_neg (by decide), if_neg (by decide), if_neg (by decide), if_neg (by decide), if_pos (by decide)], rfl⟩
      · show eZ x E _ [eO a 4 [.ref o.sa, .ref o.pa, .ref o.ha, .ref o.xa, .int o.pn, .int o.ru, .ref o.ta, .int o.ty, .int o.sp, .int o.fr, .int o.re, .int o.ca, .int o.os, .int o.od, .ref o.na], eIA E o.sa 311 f, rs] 38 [some (.ref a), some (.int (nI N)), some (.int (nI 5)), some (.int (8 / gDiv lv.tu))] [] 0 0
        refine z_iload_n C dX4_lane_38 rfl rfl ?_
        refine z_tabIn (off := 39) 78 C dX4_lane_39 (by decide) (by decide) (by decide) (by decide) ?_
        obtain ⟨k1, hk1, he1⟩ := gSeenS_r hS hv.2.1
        refine z_aload_n C dX4_lane_78 rfl rfl ?_
        refine z_iload_n C dX4_lane_79 rfl rfl ?_
        refine z_callV (r := (RX4, TX4, 15)) (As := [.int (nI N)]) (rest := []) (Δ := [rs]) [0, 1] [2] 1 (m_Mseen hl E a o f A.st R.2.2.2.2 hS N hN4 lv gs R0.1) C dX4_lane_80 rfl rfl (eIn (i := 0) rfl List.mem_cons_self) rfl rfl q1781 q1783 qs34 q67 q1784 (by decide +kernel) rfl (ePm 3 rfl (by decide +kernel)) rfl rfl ⟨Nat.le_of_ble_eq_true rfl, Nat.le_of_ble_eq_true rfl⟩ (Nat.le_trans eS0 (Nat.le_of_ble_eq_true rfl)) ⟨Nat.le_of_ble_eq_true rfl, Nat.le_of_ble_eq_true rfl⟩ (fun v_ Γ_ hp_ => ?_)
        obtain ⟨rfl, rfl⟩ := hp_
        show eZ x E _ [eO a 4 [.ref o.sa, .ref o.pa, .ref o.ha, .ref o.xa, .int o.pn, .int o.ru, .ref o.ta, .int o.ty, .int o.sp, .int o.fr, .int o.re, .int o.ca, .int o.os, .int o.od, .ref o.na], eIA E o.sa 311 f, rs] 83 [some (.ref a), some (.int (nI N)), some (.int (nI 5)), some (.int (8 / gDiv lv.tu))] [.int (gSeenS A.st lv.tu)] 0 0
        refine z_is (w := nI k1) he1 ?_
        refine z_callS (As := [.int (nI k1)]) (rest := []) (Δ := [eO a 4 [.ref o.sa, .ref o.pa, .ref o.ha, .ref o.xa, .int o.pn, .int o.ru, .ref o.ta, .int o.ty, .int o.sp, .int o.fr, .int o.re, .int o.ca, .int o.os, .int o.od, .ref o.na], eIA E o.sa 311 f, rs]) [] [0, 1, 2] 1 (m_Mbits hl E k1 hk1) C dX4_lane_83 rfl rfl rfl q1797 q1798 q67 q1799 (by decide +kernel) rfl (ePm 3 rfl (by decide +kernel)) rfl rfl ⟨Nat.le_of_ble_eq_true rfl, Nat.le_of_ble_eq_true rfl⟩ (Nat.le_trans eS0 (Nat.le_of_ble_eq_true rfl)) ⟨Nat.le_of_ble_eq_true rfl, Nat.le_of_ble_eq_true rfl⟩ (fun v_ Γ_ hp_ => ?_)
        obtain ⟨rfl, rfl⟩ := hp_
        show eZ x E _ [eO a 4 [.ref o.sa, .ref o.pa, .ref o.ha, .ref o.xa, .int o.pn, .int o.ru, .ref o.ta, .int o.ty, .int o.sp, .int o.fr, .int o.re, .int o.ca, .int o.os, .int o.od, .ref o.na], eIA E o.sa 311 f, rs] 86 [some (.ref a), some (.int (nI N)), some (.int (nI 5)), some (.int (8 / gDiv lv.tu))] [.int (gBits (nI k1))] 0 0
        subst hQ_
        exact z_ret (Γ := [eO a 4 [.ref o.sa, .ref o.pa, .ref o.ha, .ref o.xa, .int o.pn, .int o.ru, .ref o.ta, .int o.ty, .int o.sp, .int o.fr, .int o.re, .int o.ca, .int o.os, .int o.od, .ref o.na], eIA E o.sa 311 f]) C dX4_lane_86 rfl rfl (Nat.le_of_ble_eq_true rfl) (Nat.le_of_ble_eq_true rfl) ⟨by rw [gLaneQ, if_pos hif, hgL, gLaneV, if_neg (by decide), if_neg (by decide), if_neg (by decide), if_neg (by decide), if_neg (by decide), if_pos (by decide), he1], rfl⟩
      · show eZ x E _ [eO a 4 [.ref o.sa, .ref o.pa, .ref o.ha, .ref o.xa, .int o.pn, .int o.ru, .ref o.ta, .int o.ty, .int o.sp, .int o.fr, .int o.re, .int o.ca, .int o.os, .int o.od, .ref o.na], eIA E o.sa 311 f, rs] 38 [some (.ref a), some (.int (nI N)), some (.int (nI 6)), some (.int (8 / gDiv lv.tu))] [] 0 0
        refine z_iload_n C dX4_lane_38 rfl rfl ?_
        refine z_tabIn (off := 48) 87 C dX4_lane_39 (by decide) (by decide) (by decide) (by decide) ?_
        refine z_iload_n C dX4_lane_87 rfl rfl ?_
        refine z_aload_n C dX4_lane_88 rfl rfl ?_
        refine z_get eK4 0 0 C dX4_lane_89 rfl rfl q1671 (eSame1 rfl) (by decide) rfl ?_
        refine z_sipush (v := 307) C dX4_lane_92 (by decide) ?_
        refine z_iald (m := 307) (v := A.st 0) 1 C dX4_lane_95 rfl rfl (by omega) (by decide) (R0.2.2.2.2.2 0 (by decide)) ?_
        refine z_icmp_ge 103 C dX4_lane_96 (by decide) (fun h3 => ?_) (fun h3 => ?_)
        · refine z_aload_n C dX4_lane_103 rfl rfl ?_
          refine z_get eK4 0 0 C dX4_lane_104 rfl rfl q1671 (eSame1 rfl) (by decide) rfl ?_
          refine z_sipush (v := 307) C dX4_lane_107 (by decide) ?_
          refine z_iald (m := 307) (v := A.st 0) 1 C dX4_lane_110 rfl rfl (by omega) (by decide) (R0.2.2.2.2.2 0 (by decide)) ?_
          subst hQ_
          exact z_ret (Γ := [eO a 4 [.ref o.sa, .ref o.pa, .ref o.ha, .ref o.xa, .int o.pn, .int o.ru, .ref o.ta, .int o.ty, .int o.sp, .int o.fr, .int o.re, .int o.ca, .int o.os, .int o.od, .ref o.na], eIA E o.sa 311 f]) C dX4_lane_111 rfl rfl (Nat.le_of_ble_eq_true rfl) (Nat.le_of_ble_eq_true rfl) ⟨by rw [gLaneQ, if_pos hif, hgL, gLaneV, if_neg (by decide), if_neg (by decide), if_neg (by decide), if_neg (by decide), if_neg (by decide), if_neg (by decide), if_pos (by decide), gBy, eMin, if_neg (Int32.not_lt.mpr h3)], rfl⟩
        · refine z_iload_n C dX4_lane_99 rfl rfl ?_
          refine z_goto 111 C dX4_lane_100 (by decide) ?_
          subst hQ_
          exact z_ret (Γ := [eO a 4 [.ref o.sa, .ref o.pa, .ref o.ha, .ref o.xa, .int o.pn, .int o.ru, .ref o.ta, .int o.ty, .int o.sp, .int o.fr, .int o.re, .int o.ca, .int o.os, .int o.od, .ref o.na], eIA E o.sa 311 f]) C dX4_lane_111 rfl rfl (Nat.le_of_ble_eq_true rfl) (Nat.le_of_ble_eq_true rfl) ⟨by rw [gLaneQ, if_pos hif, hgL, gLaneV, if_neg (by decide), if_neg (by decide), if_neg (by decide), if_neg (by decide), if_neg (by decide), if_neg (by decide), if_pos (by decide), gBy, eMin, if_pos (Int32.not_le.mp h3)], rfl⟩
      · show eZ x E _ [eO a 4 [.ref o.sa, .ref o.pa, .ref o.ha, .ref o.xa, .int o.pn, .int o.ru, .ref o.ta, .int o.ty, .int o.sp, .int o.fr, .int o.re, .int o.ca, .int o.os, .int o.od, .ref o.na], eIA E o.sa 311 f, rs] 38 [some (.ref a), some (.int (nI N)), some (.int (nI 7)), some (.int (8 / gDiv lv.tu))] [] 0 0
        refine z_iload_n C dX4_lane_38 rfl rfl ?_
        refine z_tabIn (off := 73) 112 C dX4_lane_39 (by decide) (by decide) (by decide) (by decide) ?_
        refine z_aload_n C dX4_lane_112 rfl rfl ?_
        refine z_get eK4 0 0 C dX4_lane_113 rfl rfl q1671 (eSame1 rfl) (by decide) rfl ?_
        refine z_iload_n C dX4_lane_116 rfl rfl ?_
        refine z_callS (As := [.int (nI N)]) (rest := [.ref o.sa]) (Δ := [eO a 4 [.ref o.sa, .ref o.pa, .ref o.ha, .ref o.xa, .int o.pn, .int o.ru, .ref o.ta, .int o.ty, .int o.sp, .int o.fr, .int o.re, .int o.ca, .int o.os, .int o.od, .ref o.na], eIA E o.sa 311 f, rs]) [] [0, 1, 2] 1 (m_MlaneAt hl E N) C dX4_lane_117 rfl rfl rfl q1668 q1669 q67 q1670 (by decide +kernel) rfl (ePm 3 rfl (by decide +kernel)) rfl rfl ⟨Nat.le_of_ble_eq_true rfl, Nat.le_of_ble_eq_true rfl⟩ (Nat.le_trans (eSm rfl eS0) (Nat.le_of_ble_eq_true rfl)) ⟨Nat.le_of_ble_eq_true rfl, Nat.le_of_ble_eq_true rfl⟩ (fun v_ Γ_ hp_ => ?_)
        obtain ⟨rfl, rfl⟩ := hp_
        show eZ x E _ [eO a 4 [.ref o.sa, .ref o.pa, .ref o.ha, .ref o.xa, .int o.pn, .int o.ru, .ref o.ta, .int o.ty, .int o.sp, .int o.fr, .int o.re, .int o.ca, .int o.os, .int o.od, .ref o.na], eIA E o.sa 311 f, rs] 120 [some (.ref a), some (.int (nI N)), some (.int (nI 7)), some (.int (8 / gDiv lv.tu))] [.int (nI (192 + 6 * N)), .ref o.sa] 0 0
        refine z_iload_n C dX4_lane_120 rfl rfl ?_
        refine z_iadd (w := nI (192 + 6 * N + 7)) C dX4_lane_121 (nI_add (192 + 6 * N) 7) ?_
        refine z_iconst (v := 3) C dX4_lane_122 (by decide) ?_
        refine z_isub (w := nI (192 + 6 * N + 4)) C dX4_lane_123 (nI_sb_ (192 + 6 * N + 4) 3) ?_
        refine z_iald (m := (192 + 6 * N + 4)) (v := lv.gd) 1 C dX4_lane_124 rfl rfl (by omega) (by decide) (R0.1.2.1 4 (by decide) (by decide)) ?_
        subst hQ_
        exact z_ret (Γ := [eO a 4 [.ref o.sa, .ref o.pa, .ref o.ha, .ref o.xa, .int o.pn, .int o.ru, .ref o.ta, .int o.ty, .int o.sp, .int o.fr, .int o.re, .int o.ca, .int o.os, .int o.od, .ref o.na], eIA E o.sa 311 f]) C dX4_lane_125 rfl rfl (Nat.le_of_ble_eq_true rfl) (Nat.le_of_ble_eq_true rfl) ⟨by rw [gLaneQ, if_pos hif, hgL, gLaneV, if_neg (by decide), if_neg (by decide), if_neg (by decide), if_neg (by decide), if_neg (by decide), if_neg (by decide), if_neg (by decide), if_pos (by decide)], rfl⟩
      · show eZ x E _ [eO a 4 [.ref o.sa, .ref o.pa, .ref o.ha, .ref o.xa, .int o.pn, .int o.ru, .ref o.ta, .int o.ty, .int o.sp, .int o.fr, .int o.re, .int o.ca, .int o.os, .int o.od, .ref o.na], eIA E o.sa 311 f, rs] 38 [some (.ref a), some (.int (nI N)), some (.int (nI 8)), some (.int (8 / gDiv lv.tu))] [] 0 0
        refine z_iload_n C dX4_lane_38 rfl rfl ?_
        refine z_tabIn (off := 73) 112 C dX4_lane_39 (by decide) (by decide) (by decide) (by decide) ?_
        refine z_aload_n C dX4_lane_112 rfl rfl ?_
        refine z_get eK4 0 0 C dX4_lane_113 rfl rfl q1671 (eSame1 rfl) (by decide) rfl ?_
        refine z_iload_n C dX4_lane_116 rfl rfl ?_
        refine z_callS (As := [.int (nI N)]) (rest := [.ref o.sa]) (Δ := [eO a 4 [.ref o.sa, .ref o.pa, .ref o.ha, .ref o.xa, .int o.pn, .int o.ru, .ref o.ta, .int o.ty, .int o.sp, .int o.fr, .int o.re, .int o.ca, .int o.os, .int o.od, .ref o.na], eIA E o.sa 311 f, rs]) [] [0, 1, 2] 1 (m_MlaneAt hl E N) C dX4_lane_117 rfl rfl rfl q1668 q1669 q67 q1670 (by decide +kernel) rfl (ePm 3 rfl (by decide +kernel)) rfl rfl ⟨Nat.le_of_ble_eq_true rfl, Nat.le_of_ble_eq_true rfl⟩ (Nat.le_trans (eSm rfl eS0) (Nat.le_of_ble_eq_true rfl)) ⟨Nat.le_of_ble_eq_true rfl, Nat.le_of_ble_eq_true rfl⟩ (fun v_ Γ_ hp_ => ?_)
        obtain ⟨rfl, rfl⟩ := hp_
        show eZ x E _ [eO a 4 [.ref o.sa, .ref o.pa, .ref o.ha, .ref o.xa, .int o.pn, .int o.ru, .ref o.ta, .int o.ty, .int o.sp, .int o.fr, .int o.re, .int o.ca, .int o.os, .int o.od, .ref o.na], eIA E o.sa 311 f, rs] 120 [some (.ref a), some (.int (nI N)), some (.int (nI 8)), some (.int (8 / gDiv lv.tu))] [.int (nI (192 + 6 * N)), .ref o.sa] 0 0
        refine z_iload_n C dX4_lane_120 rfl rfl ?_
        refine z_iadd (w := nI (192 + 6 * N + 8)) C dX4_lane_121 (nI_add (192 + 6 * N) 8) ?_
        refine z_iconst (v := 3) C dX4_lane_122 (by decide) ?_
        refine z_isub (w := nI (192 + 6 * N + 5)) C dX4_lane_123 (nI_sb_ (192 + 6 * N + 5) 3) ?_
        refine z_iald (m := (192 + 6 * N + 5)) (v := lv.ck) 1 C dX4_lane_124 rfl rfl (by omega) (by decide) (R0.1.2.1 5 (by decide) (by decide)) ?_
        subst hQ_
        exact z_ret (Γ := [eO a 4 [.ref o.sa, .ref o.pa, .ref o.ha, .ref o.xa, .int o.pn, .int o.ru, .ref o.ta, .int o.ty, .int o.sp, .int o.fr, .int o.re, .int o.ca, .int o.os, .int o.od, .ref o.na], eIA E o.sa 311 f]) C dX4_lane_125 rfl rfl (Nat.le_of_ble_eq_true rfl) (Nat.le_of_ble_eq_true rfl) ⟨by rw [gLaneQ, if_pos hif, hgL, gLaneV, if_neg (by decide), if_neg (by decide), if_neg (by decide), if_neg (by decide), if_neg (by decide), if_neg (by decide), if_neg (by decide), if_neg (by decide)], rfl⟩
    · refine z_ldc C dX4_lane_17 rfl q1727 ?_
      subst hQ_
      exact z_ret (Γ := [eO a 4 [.ref o.sa, .ref o.pa, .ref o.ha, .ref o.xa, .int o.pn, .int o.ru, .ref o.ta, .int o.ty, .int o.sp, .int o.fr, .int o.re, .int o.ca, .int o.os, .int o.od, .ref o.na], eIA E o.sa 311 f]) C dX4_lane_19 rfl rfl (Nat.le_of_ble_eq_true rfl) (Nat.le_of_ble_eq_true rfl) ⟨by rw [gLaneQ, h1, h2]; rfl, rfl⟩

set_option maxHeartbeats 4000000 in
theorem m_MeggOf {l : Launch} (hl : l.stackTraces = false) (E : eEn) (a : Nat) (o : Mo) (f : Nat → Int32) (A : Am) (hok : gOk A) (hwf : gWf A) (R : Rep f A) (ln p w : Int32) : eMet l E yX4_eggOf (ws_ yX4_eggOf cX4_eggOf 5 (some .int)) ({ frames := 2, cells := 0, slots := 0, locals := 42 }) [.ref a, .int ln, .int p, .int w] [eO a 4 [.ref o.sa, .ref o.pa, .ref o.ha, .ref o.xa, .int o.pn, .int o.ru, .ref o.ta, .int o.ty, .int o.sp, .int o.fr, .int o.re, .int o.ca, .int o.os, .int o.od, .ref o.na], eIA E o.sa 311 f] (fun w_ Γ => w_ = some (.int (gEggQ A ln p w)) ∧ Γ = [eMO a o, eIA E o.sa 311 f]) := by
  refine eStart (cc := cX4_eggOf) (nL := 5) (L := [some (.ref a), some (.int ln), some (.int p), some (.int w), none]) hl (by decide) rfl (List.forall_mem_cons.mpr ⟨rfl, (List.forall_mem_cons.mpr ⟨rfl, (List.forall_mem_cons.mpr ⟨rfl, (List.forall_mem_cons.mpr ⟨rfl, (fun _ h => absurd h List.not_mem_nil)⟩)⟩)⟩)⟩) (Nat.le_of_ble_eq_true rfl) ?_
  intro x rs C
  show eZ x E (eQ x E (fun w_ Γ => w_ = some (.int (gEggQ A ln p w)) ∧ Γ = [eMO a o, eIA E o.sa 311 f]) rs) [eO a 4 [.ref o.sa, .ref o.pa, .ref o.ha, .ref o.xa, .int o.pn, .int o.ru, .ref o.ta, .int o.ty, .int o.sp, .int o.fr, .int o.re, .int o.ca, .int o.os, .int o.od, .ref o.na], eIA E o.sa 311 f, rs] 0 [some (.ref a), some (.int ln), some (.int p), some (.int w), none] [] 0 0
  generalize hQ_ : eQ x E (fun w_ Γ => w_ = some (.int (gEggQ A ln p w)) ∧ Γ = [eMO a o, eIA E o.sa 311 f]) rs = Q_
  refine z_iload_n C dX4_eggOf_0 rfl rfl ?_
  refine z_callS (As := [.int ln]) (rest := []) (Δ := [eO a 4 [.ref o.sa, .ref o.pa, .ref o.ha, .ref o.xa, .int o.pn, .int o.ru, .ref o.ta, .int o.ty, .int o.sp, .int o.fr, .int o.re, .int o.ca, .int o.os, .int o.od, .ref o.na], eIA E o.sa 311 f, rs]) [] [0, 1, 2] 1 (m_MisLane hl E ln) C dX4_eggOf_1 rfl rfl rfl q1721 q1722 q67 q1723 (by decide +kernel) rfl (ePm 3 rfl (by decide +kernel)) rfl rfl ⟨Nat.le_of_ble_eq_true rfl, Nat.le_of_ble_eq_true rfl⟩ (Nat.le_trans eS0 (Nat.le_of_ble_eq_true rfl)) ⟨Nat.le_of_ble_eq_true rfl, Nat.le_of_ble_eq_true rfl⟩ (fun v_ Γ_ hp_ => ?_)
  obtain ⟨rfl, rfl⟩ := hp_
  show eZ x E _ [eO a 4 [.ref o.sa, .ref o.pa, .ref o.ha, .ref o.xa, .int o.pn, .int o.ru, .ref o.ta, .int o.ty, .int o.sp, .int o.fr, .int o.re, .int o.ca, .int o.os, .int o.od, .ref o.na], eIA E o.sa 311 f, rs] 4 [some (.ref a), some (.int ln), some (.int p), some (.int w), none] [.int (eB (eBt ln 0 3))] 0 0
  refine z_if_eq_B 20 C dX4_eggOf_4 (by decide) (fun h1 => ?_) (fun h1 => ?_)
  · refine z_ldc C dX4_eggOf_20 rfl q1727 ?_
    subst hQ_
    exact z_ret (Γ := [eO a 4 [.ref o.sa, .ref o.pa, .ref o.ha, .ref o.xa, .int o.pn, .int o.ru, .ref o.ta, .int o.ty, .int o.sp, .int o.fr, .int o.re, .int o.ca, .int o.os, .int o.od, .ref o.na], eIA E o.sa 311 f]) C dX4_eggOf_22 rfl rfl (Nat.le_of_ble_eq_true rfl) (Nat.le_of_ble_eq_true rfl) ⟨by rw [gEggQ, if_neg (fun h => by rw [h1] at h; cases h.1)], rfl⟩
  · refine z_iload_n C dX4_eggOf_7 rfl rfl ?_
    refine z_if_lt 20 C dX4_eggOf_8 (by decide) (fun h2 => ?_) (fun h2 => ?_)
    · refine z_ldc C dX4_eggOf_20 rfl q1727 ?_
      subst hQ_
      exact z_ret (Γ := [eO a 4 [.ref o.sa, .ref o.pa, .ref o.ha, .ref o.xa, .int o.pn, .int o.ru, .ref o.ta, .int o.ty, .int o.sp, .int o.fr, .int o.re, .int o.ca, .int o.os, .int o.od, .ref o.na], eIA E o.sa 311 f]) C dX4_eggOf_22 rfl rfl (Nat.le_of_ble_eq_true rfl) (Nat.le_of_ble_eq_true rfl) ⟨by rw [gEggQ, if_neg (fun h => h.2.1 h2)], rfl⟩
    · refine z_iload_n C dX4_eggOf_11 rfl rfl ?_
      refine z_iconst (v := 0) C dX4_eggOf_12 (by decide) ?_
      refine z_iconst (v := 5) C dX4_eggOf_13 (by decide) ?_
      refine z_callS (As := [.int w, .int 0, .int 5]) (rest := []) (Δ := [eO a 4 [.ref o.sa, .ref o.pa, .ref o.ha, .ref o.xa, .int o.pn, .int o.ru, .ref o.ta, .int o.ty, .int o.sp, .int o.fr, .int o.re, .int o.ca, .int o.os, .int o.od, .ref o.na], eIA E o.sa 311 f, rs]) [] [0, 1, 2] 3 (m_Min hl E w 0 5) C dX4_eggOf_14 rfl rfl rfl q1724 q1725 q67 q1726 (by decide +kernel) rfl (ePm 3 rfl (by decide +kernel)) rfl rfl ⟨Nat.le_of_ble_eq_true rfl, Nat.le_of_ble_eq_true rfl⟩ (Nat.le_trans eS0 (Nat.le_of_ble_eq_true rfl)) ⟨Nat.le_of_ble_eq_true rfl, Nat.le_of_ble_eq_true rfl⟩ (fun v_ Γ_ hp_ => ?_)
      obtain ⟨rfl, rfl⟩ := hp_
      show eZ x E _ [eO a 4 [.ref o.sa, .ref o.pa, .ref o.ha, .ref o.xa, .int o.pn, .int o.ru, .ref o.ta, .int o.ty, .int o.sp, .int o.fr, .int o.re, .int o.ca, .int o.os, .int o.od, .ref o.na], eIA E o.sa 311 f, rs] 17 [some (.ref a), some (.int ln), some (.int p), some (.int w), none] [.int (eB (eBt w 0 5))] 0 0
      refine z_if_ne_B 23 C dX4_eggOf_17 (by decide) (fun h3 => ?_) (fun h3 => ?_)
      · have hif : eBt ln 0 3 = true ∧ ¬ p < 0 ∧ eBt w 0 5 = true := ⟨h1, h2, h3⟩
        obtain ⟨N, hN, rfl⟩ := eBt_N (h1)
        have hN4 : N < 4 := Nat.lt_succ_of_le hN
        obtain ⟨⟨lv, gs⟩, hx⟩ : ∃ q_, A.ls[N]? = some q_ := ⟨_, List.getElem?_eq_getElem (by rw [hok.1]; exact hN4)⟩
        have h8 : gs.length ≤ 8 := hok.2.1 _ (List.mem_of_getElem? hx)
        have hz : rZ N gs A.cs A.bs := ⟨hN4, h8, Nat.le_of_eq hok.2.2.1, hok.2.2.2.1⟩
        have R0 : rP f f N lv gs A.cs A.bs (gTF A) A.st := rP_of R hx
        show eZ x E _ [eO a 4 [.ref o.sa, .ref o.pa, .ref o.ha, .ref o.xa, .int o.pn, .int o.ru, .ref o.ta, .int o.ty, .int o.sp, .int o.fr, .int o.re, .int o.ca, .int o.os, .int o.od, .ref o.na], eIA E o.sa 311 f, rs] 23 [some (.ref a), some (.int (nI N)), some (.int p), some (.int w), none] [] 0 0
        have hwx := hwf.1 _ (List.mem_of_getElem? hx)
        have hv : gWfL lv := hwx.1
        have hgs : ∀ g ∈ gs, gEgOk g = true := hwx.2
        have hS := hwf.2.2.1
        have hgL := gL_at hN4 hx
        obtain ⟨q, hq31, rfl⟩ := nI_of h2
        show eZ x E _ [eO a 4 [.ref o.sa, .ref o.pa, .ref o.ha, .ref o.xa, .int o.pn, .int o.ru, .ref o.ta, .int o.ty, .int o.sp, .int o.fr, .int o.re, .int o.ca, .int o.os, .int o.od, .ref o.na], eIA E o.sa 311 f, rs] 23 [some (.ref a), some (.int (nI N)), some (.int (nI q)), some (.int w), none] [] 0 0
        have hnq : nN (nI q) = q := by unfold nN; rw [nI_toInt hq31]; omega
        refine z_iload_n C dX4_eggOf_23 rfl rfl ?_
        refine z_aload_n C dX4_eggOf_24 rfl rfl ?_
        refine z_iload_n C dX4_eggOf_25 rfl rfl ?_
        refine z_callV (r := (RX4, TX4, 15)) (As := [.int (nI N)]) (rest := [.int (nI q)]) (Δ := [rs]) [0, 1] [2] 1 (m_Mmany hl E a o f N hN4 lv gs R0.1) C dX4_eggOf_26 rfl rfl (eIn (i := 0) rfl List.mem_cons_self) rfl rfl q1728 q1730 qs27 q67 q1731 (by decide +kernel) rfl (ePm 3 rfl (by decide +kernel)) rfl rfl ⟨Nat.le_of_ble_eq_true rfl, Nat.le_of_ble_eq_true rfl⟩ (Nat.le_trans (eSm rfl eS0) (Nat.le_of_ble_eq_true rfl)) ⟨Nat.le_of_ble_eq_true rfl, Nat.le_of_ble_eq_true rfl⟩ (fun v_ Γ_ hp_ => ?_)
        obtain ⟨rfl, rfl⟩ := hp_
        show eZ x E _ [eO a 4 [.ref o.sa, .ref o.pa, .ref o.ha, .ref o.xa, .int o.pn, .int o.ru, .ref o.ta, .int o.ty, .int o.sp, .int o.fr, .int o.re, .int o.ca, .int o.os, .int o.od, .ref o.na], eIA E o.sa 311 f, rs] 29 [some (.ref a), some (.int (nI N)), some (.int (nI q)), some (.int w), none] [.int (nI gs.length), .int (nI q)] 0 0
        refine z_icmp_lt 35 C dX4_eggOf_29 (by decide) (fun h4 => ?_) (fun h4 => ?_)
        · have hql : q < gs.length := (nI_ltI (a := q) (b := gs.length) hq31 (by omega)).mp h4
          obtain ⟨g, hg⟩ : ∃ g, gs[q]? = some g := ⟨_, List.getElem?_eq_getElem hql⟩
          have hgo := hgs g (List.mem_of_getElem? hg)
          obtain ⟨K, hK, rfl⟩ := eBt_N (h3)
          have hK2 : K < 6 := Nat.lt_succ_of_le hK
          have hK3 : K = 0 ∨ K = 1 ∨ K = 2 ∨ K = 3 ∨ K = 4 ∨ K = 5 := by omega
          rcases hK3 with rfl | rfl | rfl | rfl | rfl | rfl
          · show eZ x E _ [eO a 4 [.ref o.sa, .ref o.pa, .ref o.ha, .ref o.xa, .int o.pn, .int o.ru, .ref o.ta, .int o.ty, .int o.sp, .int o.fr, .int o.re, .int o.ca, .int o.os, .int o.od, .ref o.na], eIA E o.sa 311 f, rs] 35 [some (.ref a), some (.int (nI N)), some (.int (nI q)), some (.int (nI 0)), none] [] 0 0
            refine z_aload_n C dX4_eggOf_35 rfl rfl ?_
            refine z_get eK4 0 0 C dX4_eggOf_36 rfl rfl q1671 (eSame1 rfl) (by decide) rfl ?_
            refine z_iload_n C dX4_eggOf_39 rfl rfl ?_
            refine z_iload_n C dX4_eggOf_40 rfl rfl ?_
            refine z_callS (As := [.int (nI N), .int (nI q)]) (rest := [.ref o.sa]) (Δ := [eO a 4 [.ref o.sa, .ref o.pa, .ref o.ha, .ref o.xa, .int o.pn, .int o.ru, .ref o.ta, .int o.ty, .int o.sp, .int o.fr, .int o.re, .int o.ca, .int o.os, .int o.od, .ref o.na], eIA E o.sa 311 f, rs]) [] [0, 1, 2] 2 (m_MeggAt hl E N q) C dX4_eggOf_41 rfl rfl rfl q1737 q1738 q67 q1739 (by decide +kernel) rfl (ePm 3 rfl (by decide +kernel)) rfl rfl ⟨Nat.le_of_ble_eq_true rfl, Nat.le_of_ble_eq_true rfl⟩ (Nat.le_trans (eSm rfl eS0) (Nat.le_of_ble_eq_true rfl)) ⟨Nat.le_of_ble_eq_true rfl, Nat.le_of_ble_eq_true rfl⟩ (fun v_ Γ_ hp_ => ?_)
            obtain ⟨rfl, rfl⟩ := hp_
            show eZ x E _ [eO a 4 [.ref o.sa, .ref o.pa, .ref o.ha, .ref o.xa, .int o.pn, .int o.ru, .ref o.ta, .int o.ty, .int o.sp, .int o.fr, .int o.re, .int o.ca, .int o.os, .int o.od, .ref o.na], eIA E o.sa 311 f, rs] 44 [some (.ref a), some (.int (nI N)), some (.int (nI q)), some (.int (nI 0)), none] [.int (nI (48 * N + 6 * q)), .ref o.sa] 0 0
            refine z_iload_n C dX4_eggOf_44 rfl rfl ?_
            refine z_iadd (w := nI (48 * N + 6 * q)) C dX4_eggOf_45 (nI_add (48 * N + 6 * q) 0) ?_
            refine z_iald (m := (48 * N + 6 * q)) (v := g.w) 1 C dX4_eggOf_46 rfl rfl (by omega) (by decide) (R0.1.2.2 q g hg 0 (by decide)) ?_
            refine z_istore (L2 := [some (.ref a), some (.int (nI N)), some (.int (nI q)), some (.int (nI 0)), some (.int g.w)]) C dX4_eggOf_47 (Nat.le_of_ble_eq_true rfl) rfl ?_
            refine z_iload_n C dX4_eggOf_49 rfl rfl ?_
            refine z_iconst (v := 4) C dX4_eggOf_50 (by decide) ?_
            refine z_icmp_eq 59 C dX4_eggOf_51 (by decide) (fun h_ => absurd h_ (by decide)) (fun h_ => ?_)
            refine z_iload C dX4_eggOf_54 rfl ?_
            refine z_goto 73 C dX4_eggOf_56 (by decide) ?_
            subst hQ_
            exact z_ret (Γ := [eO a 4 [.ref o.sa, .ref o.pa, .ref o.ha, .ref o.xa, .int o.pn, .int o.ru, .ref o.ta, .int o.ty, .int o.sp, .int o.fr, .int o.re, .int o.ca, .int o.os, .int o.od, .ref o.na], eIA E o.sa 311 f]) C dX4_eggOf_73 rfl rfl (Nat.le_of_ble_eq_true rfl) (Nat.le_of_ble_eq_true rfl) ⟨by rw [gEggQ, if_pos hif, hgL, hnq, hg]; show _ = some (Value.int (gEggV g (nI 0))); rw [gEggV, if_pos (by decide)], rfl⟩
          · show eZ x E _ [eO a 4 [.ref o.sa, .ref o.pa, .ref o.ha, .ref o.xa, .int o.pn, .int o.ru, .ref o.ta, .int o.ty, .int o.sp, .int o.fr, .int o.re, .int o.ca, .int o.os, .int o.od, .ref o.na], eIA E o.sa 311 f, rs] 35 [some (.ref a), some (.int (nI N)), some (.int (nI q)), some (.int (nI 1)), none] [] 0 0
            refine z_aload_n C dX4_eggOf_35 rfl rfl ?_
            refine z_get eK4 0 0 C dX4_eggOf_36 rfl rfl q1671 (eSame1 rfl) (by decide) rfl ?_
            refine z_iload_n C dX4_eggOf_39 rfl rfl ?_
            refine z_iload_n C dX4_eggOf_40 rfl rfl ?_
            refine z_callS (As := [.int (nI N), .int (nI q)]) (rest := [.ref o.sa]) (Δ := [eO a 4 [.ref o.sa, .ref o.pa, .ref o.ha, .ref o.xa, .int o.pn, .int o.ru, .ref o.ta, .int o.ty, .int o.sp, .int o.fr, .int o.re, .int o.ca, .int o.os, .int o.od, .ref o.na], eIA E o.sa 311 f, rs]) [] [0, 1, 2] 2 (m_MeggAt hl E N q) C dX4_eggOf_41 rfl rfl rfl q1737 q1738 q67 q1739 (by decide +kernel) rfl (ePm 3 rfl (by decide +kernel)) rfl rfl ⟨Nat.le_of_ble_eq_true rfl, Nat.le_of_ble_eq_true rfl⟩ (Nat.le_trans (eSm rfl eS0) (Nat.le_of_ble_eq_true rfl)) ⟨Nat.le_of_ble_eq_true rfl, Nat.le_of_ble_eq_true rfl⟩ (fun v_ Γ_ hp_ => ?_)
            obtain ⟨rfl, rfl⟩ := hp_
            show eZ x E _ [eO a 4 [.ref o.sa, .ref o.pa, .ref o.ha, .ref o.xa, .int o.pn, .int o.ru, .ref o.ta, .int o.ty, .int o.sp, .int o.fr, .int o.re, .int o.ca, .int o.os, .int o.od, .ref o.na], eIA E o.sa 311 f, rs] 44 [some (.ref a), some (.int (nI N)), some (.int (nI q)), some (.int (nI 1)), none] [.int (nI (48 * N + 6 * q)), .ref o.sa] 0 0
            refine z_iload_n C dX4_eggOf_44 rfl rfl ?_
            refine z_iadd (w := nI (48 * N + 6 * q + 1)) C dX4_eggOf_45 (nI_add (48 * N + 6 * q) 1) ?_
            refine z_iald (m := (48 * N + 6 * q + 1)) (v := g.sh) 1 C dX4_eggOf_46 rfl rfl (by omega) (by decide) (R0.1.2.2 q g hg 1 (by decide)) ?_
            refine z_istore (L2 := [some (.ref a), some (.int (nI N)), some (.int (nI q)), some (.int (nI 1)), some (.int g.sh)]) C dX4_eggOf_47 (Nat.le_of_ble_eq_true rfl) rfl ?_
            refine z_iload_n C dX4_eggOf_49 rfl rfl ?_
            refine z_iconst (v := 4) C dX4_eggOf_50 (by decide) ?_
            refine z_icmp_eq 59 C dX4_eggOf_51 (by decide) (fun h_ => absurd h_ (by decide)) (fun h_ => ?_)
            refine z_iload C dX4_eggOf_54 rfl ?_
            refine z_goto 73 C dX4_eggOf_56 (by decide) ?_
            subst hQ_
            exact z_ret (Γ := [eO a 4 [.ref o.sa, .ref o.pa, .ref o.ha, .ref o.xa, .int o.pn, .int o.ru, .ref o.ta, .int o.ty, .int o.sp, .int o.fr, .int o.re, .int o.ca, .int o.os, .int o.od, .ref o.na], eIA E o.sa 311 f]) C dX4_eggOf_73 rfl rfl (Nat.le_of_ble_eq_true rfl) (Nat.le_of_ble_eq_true rfl) ⟨by rw [gEggQ, if_pos hif, hgL, hnq, hg]; show _ = some (Value.int (gEggV g (nI 1))); rw [gEggV, if_neg (by decide), if_pos (by decide)], rfl⟩
          · show eZ x E _ [eO a 4 [.ref o.sa, .ref o.pa, .ref o.ha, .ref o.xa, .int o.pn, .int o.ru, .ref o.ta, .int o.ty, .int o.sp, .int o.fr, .int o.re, .int o.ca, .int o.os, .int o.od, .ref o.na], eIA E o.sa 311 f, rs] 35 [some (.ref a), some (.int (nI N)), some (.int (nI q)), some (.int (nI 2)), none] [] 0 0
            refine z_aload_n C dX4_eggOf_35 rfl rfl ?_
            refine z_get eK4 0 0 C dX4_eggOf_36 rfl rfl q1671 (eSame1 rfl) (by decide) rfl ?_
            refine z_iload_n C dX4_eggOf_39 rfl rfl ?_
            refine z_iload_n C dX4_eggOf_40 rfl rfl ?_
            refine z_callS (As := [.int (nI N), .int (nI q)]) (rest := [.ref o.sa]) (Δ := [eO a 4 [.ref o.sa, .ref o.pa, .ref o.ha, .ref o.xa, .int o.pn, .int o.ru, .ref o.ta, .int o.ty, .int o.sp, .int o.fr, .int o.re, .int o.ca, .int o.os, .int o.od, .ref o.na], eIA E o.sa 311 f, rs]) [] [0, 1, 2] 2 (m_MeggAt hl E N q) C dX4_eggOf_41 rfl rfl rfl q1737 q1738 q67 q1739 (by decide +kernel) rfl (ePm 3 rfl (by decide +kernel)) rfl rfl ⟨Nat.le_of_ble_eq_true rfl, Nat.le_of_ble_eq_true rfl⟩ (Nat.le_trans (eSm rfl eS0) (Nat.le_of_ble_eq_true rfl)) ⟨Nat.le_of_ble_eq_true rfl, Nat.le_of_ble_eq_true rfl⟩ (fun v_ Γ_ hp_ => ?_)
            obtain ⟨rfl, rfl⟩ := hp_
            show eZ x E _ [eO a 4 [.ref o.sa, .ref o.pa, .ref o.ha, .ref o.xa, .int o.pn, .int o.ru, .ref o.ta, .int o.ty, .int o.sp, .int o.fr, .int o.re, .int o.ca, .int o.os, .int o.od, .ref o.na], eIA E o.sa 311 f, rs] 44 [some (.ref a), some (.int (nI N)), some (.int (nI q)), some (.int (nI 2)), none] [.int (nI (48 * N + 6 * q)), .ref o.sa] 0 0
            refine z_iload_n C dX4_eggOf_44 rfl rfl ?_
            refine z_iadd (w := nI (48 * N + 6 * q + 2)) C dX4_eggOf_45 (nI_add (48 * N + 6 * q) 2) ?_
            refine z_iald (m := (48 * N + 6 * q + 2)) (v := g.sp) 1 C dX4_eggOf_46 rfl rfl (by omega) (by decide) (R0.1.2.2 q g hg 2 (by decide)) ?_
            refine z_istore (L2 := [some (.ref a), some (.int (nI N)), some (.int (nI q)), some (.int (nI 2)), some (.int g.sp)]) C dX4_eggOf_47 (Nat.le_of_ble_eq_true rfl) rfl ?_
            refine z_iload_n C dX4_eggOf_49 rfl rfl ?_
            refine z_iconst (v := 4) C dX4_eggOf_50 (by decide) ?_
            refine z_icmp_eq 59 C dX4_eggOf_51 (by decide) (fun h_ => absurd h_ (by decide)) (fun h_ => ?_)
            refine z_iload C dX4_eggOf_54 rfl ?_
            refine z_goto 73 C dX4_eggOf_56 (by decide) ?_
            subst hQ_
            exact z_ret (Γ := [eO a 4 [.ref o.sa, .ref o.pa, .ref o.ha, .ref o.xa, .int o.pn, .int o.ru, .ref o.ta, .int o.ty, .int o.sp, .int o.fr, .int o.re, .int o.ca, .int o.os, .int o.od, .ref o.na], eIA E o.sa 311 f]) C dX4_eggOf_73 rfl rfl (Nat.le_of_ble_eq_true rfl) (Nat.le_of_ble_eq_true rfl) ⟨by rw [gEggQ, if_pos hif, hgL, hnq, hg]; show _ = some (Value.int (gEggV g (nI 2))); rw [gEggV, if_neg (by decide), if_neg (by decide), if_pos (by decide)], rfl⟩
          · show eZ x E _ [eO a 4 [.ref o.sa, .ref o.pa, .ref o.ha, .ref o.xa, .int o.pn, .int o.ru, .ref o.ta, .int o.ty, .int o.sp, .int o.fr, .int o.re, .int o.ca, .int o.os, .int o.od, .ref o.na], eIA E o.sa 311 f, rs] 35 [some (.ref a), some (.int (nI N)), some (.int (nI q)), some (.int (nI 3)), none] [] 0 0
            refine z_aload_n C dX4_eggOf_35 rfl rfl ?_
            refine z_get eK4 0 0 C dX4_eggOf_36 rfl rfl q1671 (eSame1 rfl) (by decide) rfl ?_
            refine z_iload_n C dX4_eggOf_39 rfl rfl ?_
            refine z_iload_n C dX4_eggOf_40 rfl rfl ?_
            refine z_callS (As := [.int (nI N), .int (nI q)]) (rest := [.ref o.sa]) (Δ := [eO a 4 [.ref o.sa, .ref o.pa, .ref o.ha, .ref o.xa, .int o.pn, .int o.ru, .ref o.ta, .int o.ty, .int o.sp, .int o.fr, .int o.re, .int o.ca, .int o.os, .int o.od, .ref o.na], eIA E o.sa 311 f, rs]) [] [0, 1, 2] 2 (m_MeggAt hl E N q) C dX4_eggOf_41 rfl rfl rfl q1737 q1738 q67 q1739 (by decide +kernel) rfl (ePm 3 rfl (by decide +kernel)) rfl rfl ⟨Nat.le_of_ble_eq_true rfl, Nat.le_of_ble_eq_true rfl⟩ (Nat.le_trans (eSm rfl eS0) (Nat.le_of_ble_eq_true rfl)) ⟨Nat.le_of_ble_eq_true rfl, Nat.le_of_ble_eq_true rfl⟩ (fun v_ Γ_ hp_ => ?_)
            obtain ⟨rfl, rfl⟩ := hp_
            show eZ x E _ [eO a 4 [.ref o.sa, .ref o.pa, .ref o.ha, .ref o.xa, .int o.pn, .int o.ru, .ref o.ta, .int o.ty, .int o.sp, .int o.fr, .int o.re, .int o.ca, .int o.os, .int o.od, .ref o.na], eIA E o.sa 311 f, rs] 44 [some (.ref a), some (.int (nI N)), some (.int (nI q)), some (.int (nI 3)), none] [.int (nI (48 * N + 6 * q)), .ref o.sa] 0 0
            refine z_iload_n C dX4_eggOf_44 rfl rfl ?_
            refine z_iadd (w := nI (48 * N + 6 * q + 3)) C dX4_eggOf_45 (nI_add (48 * N + 6 * q) 3) ?_
            refine z_iald (m := (48 * N + 6 * q + 3)) (v := g.y) 1 C dX4_eggOf_46 rfl rfl (by omega) (by decide) (R0.1.2.2 q g hg 3 (by decide)) ?_
            refine z_istore (L2 := [some (.ref a), some (.int (nI N)), some (.int (nI q)), some (.int (nI 3)), some (.int g.y)]) C dX4_eggOf_47 (Nat.le_of_ble_eq_true rfl) rfl ?_
            refine z_iload_n C dX4_eggOf_49 rfl rfl ?_
            refine z_iconst (v := 4) C dX4_eggOf_50 (by decide) ?_
            refine z_icmp_eq 59 C dX4_eggOf_51 (by decide) (fun h_ => absurd h_ (by decide)) (fun h_ => ?_)
            refine z_iload C dX4_eggOf_54 rfl ?_
            refine z_goto 73 C dX4_eggOf_56 (by decide) ?_
            subst hQ_
            exact z_ret (Γ := [eO a 4 [.ref o.sa, .ref o.pa, .ref o.ha, .ref o.xa, .int o.pn, .int o.ru, .ref o.ta, .int o.ty, .int o.sp, .int o.fr, .int o.re, .int o.ca, .int o.os, .int o.od, .ref o.na], eIA E o.sa 311 f]) C dX4_eggOf_73 rfl rfl (Nat.le_of_ble_eq_true rfl) (Nat.le_of_ble_eq_true rfl) ⟨by rw [gEggQ, if_pos hif, hgL, hnq, hg]; show _ = some (Value.int (gEggV g (nI 3))); rw [gEggV, if_neg (by decide), if_neg (by decide), if_neg (by decide), if_pos (by decide)], rfl⟩
          · show eZ x E _ [eO a 4 [.ref o.sa, .ref o.pa, .ref o.ha, .ref o.xa, .int o.pn, .int o.ru, .ref o.ta, .int o.ty, .int o.sp, .int o.fr, .int o.re, .int o.ca, .int o.os, .int o.od, .ref o.na], eIA E o.sa 311 f, rs] 35 [some (.ref a), some (.int (nI N)), some (.int (nI q)), some (.int (nI 4)), none] [] 0 0
            refine z_aload_n C dX4_eggOf_35 rfl rfl ?_
            refine z_get eK4 0 0 C dX4_eggOf_36 rfl rfl q1671 (eSame1 rfl) (by decide) rfl ?_
            refine z_iload_n C dX4_eggOf_39 rfl rfl ?_
            refine z_iload_n C dX4_eggOf_40 rfl rfl ?_
            refine z_callS (As := [.int (nI N), .int (nI q)]) (rest := [.ref o.sa]) (Δ := [eO a 4 [.ref o.sa, .ref o.pa, .ref o.ha, .ref o.xa, .int o.pn, .int o.ru, .ref o.ta, .int o.ty, .int o.sp, .int o.fr, .int o.re, .int o.ca, .int o.os, .int o.od, .ref o.na], eIA E o.sa 311 f, rs]) [] [0, 1, 2] 2 (m_MeggAt hl E N q) C dX4_eggOf_41 rfl rfl rfl q1737 q1738 q67 q1739 (by decide +kernel) rfl (ePm 3 rfl (by decide +kernel)) rfl rfl ⟨Nat.le_of_ble_eq_true rfl, Nat.le_of_ble_eq_true rfl⟩ (Nat.le_trans (eSm rfl eS0) (Nat.le_of_ble_eq_true rfl)) ⟨Nat.le_of_ble_eq_true rfl, Nat.le_of_ble_eq_true rfl⟩ (fun v_ Γ_ hp_ => ?_)
            obtain ⟨rfl, rfl⟩ := hp_
            show eZ x E _ [eO a 4 [.ref o.sa, .ref o.pa, .ref o.ha, .ref o.xa, .int o.pn, .int o.ru, .ref o.ta, .int o.ty, .int o.sp, .int o.fr, .int o.re, .int o.ca, .int o.os, .int o.od, .ref o.na], eIA E o.sa 311 f, rs] 44 [some (.ref a), some (.int (nI N)), some (.int (nI q)), some (.int (nI 4)), none] [.int (nI (48 * N + 6 * q)), .ref o.sa] 0 0
            refine z_iload_n C dX4_eggOf_44 rfl rfl ?_
            refine z_iadd (w := nI (48 * N + 6 * q + 4)) C dX4_eggOf_45 (nI_add (48 * N + 6 * q) 4) ?_
            refine z_iald (m := (48 * N + 6 * q + 4)) (v := g.c + 1) 1 C dX4_eggOf_46 rfl rfl (by omega) (by decide) (R0.1.2.2 q g hg 4 (by decide)) ?_
            refine z_istore (L2 := [some (.ref a), some (.int (nI N)), some (.int (nI q)), some (.int (nI 4)), some (.int (g.c + 1))]) C dX4_eggOf_47 (Nat.le_of_ble_eq_true rfl) rfl ?_
            refine z_iload_n C dX4_eggOf_49 rfl rfl ?_
            refine z_iconst (v := 4) C dX4_eggOf_50 (by decide) ?_
            refine z_icmp_eq 59 C dX4_eggOf_51 (by decide) (fun h_ => ?_) (fun h_ => absurd h_ (absurd rfl h_))
            refine z_iload C dX4_eggOf_59 rfl ?_
            refine z_if_le 71 C dX4_eggOf_61 (by decide) (fun h5 => ?_) (fun h5 => ?_)
            · refine z_ldc C dX4_eggOf_71 rfl q1833 ?_
              subst hQ_
              exact z_ret (Γ := [eO a 4 [.ref o.sa, .ref o.pa, .ref o.ha, .ref o.xa, .int o.pn, .int o.ru, .ref o.ta, .int o.ty, .int o.sp, .int o.fr, .int o.re, .int o.ca, .int o.os, .int o.od, .ref o.na], eIA E o.sa 311 f]) C dX4_eggOf_73 rfl rfl (Nat.le_of_ble_eq_true rfl) (Nat.le_of_ble_eq_true rfl) ⟨by rw [gEggQ, if_pos hif, hgL, hnq, hg]; show _ = some (Value.int (gEggV g (nI 4))); rw [gEggV, if_neg (by decide), if_neg (by decide), if_neg (by decide), if_neg (by decide), if_pos (by decide), if_neg (show ¬ gCrk g = true from fun h9 => of_decide_eq_true h9 ((gCrk_le hgo).mp h5))], rfl⟩
            · refine z_iload C dX4_eggOf_64 rfl ?_
              refine z_iconst (v := 1) C dX4_eggOf_66 (by decide) ?_
              refine z_isub (w := g.c) C dX4_eggOf_67 (Int32.add_sub_cancel _ _) ?_
              refine z_goto 73 C dX4_eggOf_68 (by decide) ?_
              subst hQ_
              exact z_ret (Γ := [eO a 4 [.ref o.sa, .ref o.pa, .ref o.ha, .ref o.xa, .int o.pn, .int o.ru, .ref o.ta, .int o.ty, .int o.sp, .int o.fr, .int o.re, .int o.ca, .int o.os, .int o.od, .ref o.na], eIA E o.sa 311 f]) C dX4_eggOf_73 rfl rfl (Nat.le_of_ble_eq_true rfl) (Nat.le_of_ble_eq_true rfl) ⟨by rw [gEggQ, if_pos hif, hgL, hnq, hg]; show _ = some (Value.int (gEggV g (nI 4))); rw [gEggV, if_neg (by decide), if_neg (by decide), if_neg (by decide), if_neg (by decide), if_pos (by decide), if_pos (show gCrk g = true from decide_eq_true (fun h => h5 ((gCrk_le hgo).mpr h)))], rfl⟩
          · show eZ x E _ [eO a 4 [.ref o.sa, .ref o.pa, .ref o.ha, .ref o.xa, .int o.pn, .int o.ru, .ref o.ta, .int o.ty, .int o.sp, .int o.fr, .int o.re, .int o.ca, .int o.os, .int o.od, .ref o.na], eIA E o.sa 311 f, rs] 35 [some (.ref a), some (.int (nI N)), some (.int (nI q)), some (.int (nI 5)), none] [] 0 0
            refine z_aload_n C dX4_eggOf_35 rfl rfl ?_
            refine z_get eK4 0 0 C dX4_eggOf_36 rfl rfl q1671 (eSame1 rfl) (by decide) rfl ?_
            refine z_iload_n C dX4_eggOf_39 rfl rfl ?_
            refine z_iload_n C dX4_eggOf_40 rfl rfl ?_
            refine z_callS (As := [.int (nI N), .int (nI q)]) (rest := [.ref o.sa]) (Δ := [eO a 4 [.ref o.sa, .ref o.pa, .ref o.ha, .ref o.xa, .int o.pn, .int o.ru, .ref o.ta, .int o.ty, .int o.sp, .int o.fr, .int o.re, .int o.ca, .int o.os, .int o.od, .ref o.na], eIA E o.sa 311 f, rs]) [] [0, 1, 2] 2 (m_MeggAt hl E N q) C dX4_eggOf_41 rfl rfl rfl q1737 q1738 q67 q1739 (by decide +kernel) rfl (ePm 3 rfl (by decide +kernel)) rfl rfl ⟨Nat.le_of_ble_eq_true rfl, Nat.le_of_ble_eq_true rfl⟩ (Nat.le_trans (eSm rfl eS0) (Nat.le_of_ble_eq_true rfl)) ⟨Nat.le_of_ble_eq_true rfl, Nat.le_of_ble_eq_true rfl⟩ (fun v_ Γ_ hp_ => ?_)
            obtain ⟨rfl, rfl⟩ := hp_
            show eZ x E _ [eO a 4 [.ref o.sa, .ref o.pa, .ref o.ha, .ref o.xa, .int o.pn, .int o.ru, .ref o.ta, .int o.ty, .int o.sp, .int o.fr, .int o.re, .int o.ca, .int o.os, .int o.od, .ref o.na], eIA E o.sa 311 f, rs] 44 [some (.ref a), some (.int (nI N)), some (.int (nI q)), some (.int (nI 5)), none] [.int (nI (48 * N + 6 * q)), .ref o.sa] 0 0
            refine z_iload_n C dX4_eggOf_44 rfl rfl ?_
            refine z_iadd (w := nI (48 * N + 6 * q + 5)) C dX4_eggOf_45 (nI_add (48 * N + 6 * q) 5) ?_
            refine z_iald (m := (48 * N + 6 * q + 5)) (v := g.t) 1 C dX4_eggOf_46 rfl rfl (by omega) (by decide) (R0.1.2.2 q g hg 5 (by decide)) ?_
            refine z_istore (L2 := [some (.ref a), some (.int (nI N)), some (.int (nI q)), some (.int (nI 5)), some (.int g.t)]) C dX4_eggOf_47 (Nat.le_of_ble_eq_true rfl) rfl ?_
            refine z_iload_n C dX4_eggOf_49 rfl rfl ?_
            refine z_iconst (v := 4) C dX4_eggOf_50 (by decide) ?_
            refine z_icmp_eq 59 C dX4_eggOf_51 (by decide) (fun h_ => absurd h_ (by decide)) (fun h_ => ?_)
            refine z_iload C dX4_eggOf_54 rfl ?_
            refine z_goto 73 C dX4_eggOf_56 (by decide) ?_
            subst hQ_
            exact z_ret (Γ := [eO a 4 [.ref o.sa, .ref o.pa, .ref o.ha, .ref o.xa, .int o.pn, .int o.ru, .ref o.ta, .int o.ty, .int o.sp, .int o.fr, .int o.re, .int o.ca, .int o.os, .int o.od, .ref o.na], eIA E o.sa 311 f]) C dX4_eggOf_73 rfl rfl (Nat.le_of_ble_eq_true rfl) (Nat.le_of_ble_eq_true rfl) ⟨by rw [gEggQ, if_pos hif, hgL, hnq, hg]; show _ = some (Value.int (gEggV g (nI 5))); rw [gEggV, if_neg (by decide), if_neg (by decide), if_neg (by decide), if_neg (by decide), if_neg (by decide)], rfl⟩
        · refine z_ldc C dX4_eggOf_32 rfl q1833 ?_
          subst hQ_
          exact z_ret (Γ := [eO a 4 [.ref o.sa, .ref o.pa, .ref o.ha, .ref o.xa, .int o.pn, .int o.ru, .ref o.ta, .int o.ty, .int o.sp, .int o.fr, .int o.re, .int o.ca, .int o.os, .int o.od, .ref o.na], eIA E o.sa 311 f]) C dX4_eggOf_34 rfl rfl (Nat.le_of_ble_eq_true rfl) (Nat.le_of_ble_eq_true rfl) ⟨by rw [gEggQ, if_pos hif, hgL, hnq, List.getElem?_eq_none (show gs.length ≤ q by rcases Nat.lt_or_ge q gs.length with h | h; exact absurd (nI_lt h (by omega)) h4; exact h)], rfl⟩
      · refine z_ldc C dX4_eggOf_20 rfl q1727 ?_
        subst hQ_
        exact z_ret (Γ := [eO a 4 [.ref o.sa, .ref o.pa, .ref o.ha, .ref o.xa, .int o.pn, .int o.ru, .ref o.ta, .int o.ty, .int o.sp, .int o.fr, .int o.re, .int o.ca, .int o.os, .int o.od, .ref o.na], eIA E o.sa 311 f]) C dX4_eggOf_22 rfl rfl (Nat.le_of_ble_eq_true rfl) (Nat.le_of_ble_eq_true rfl) ⟨by rw [gEggQ, if_neg (fun h => by rw [h3] at h; cases h.2.2)], rfl⟩

set_option maxHeartbeats 4000000 in
theorem m_Mcrate {l : Launch} (hl : l.stackTraces = false) (E : eEn) (a : Nat) (o : Mo) (f : Nat → Int32) (A : Am) (hok : gOk A) (hwf : gWf A) (R : Rep f A) (gr w : Int32) : eMet l E yX4_crate (ws_ yX4_crate cX4_crate 3 (some .int)) ({ frames := 1, cells := 0, slots := 0, locals := 22 }) [.ref a, .int gr, .int w] [eO a 4 [.ref o.sa, .ref o.pa, .ref o.ha, .ref o.xa, .int o.pn, .int o.ru, .ref o.ta, .int o.ty, .int o.sp, .int o.fr, .int o.re, .int o.ca, .int o.os, .int o.od, .ref o.na], eIA E o.sa 311 f] (fun w_ Γ => w_ = some (.int (gCrQ A gr w)) ∧ Γ = [eMO a o, eIA E o.sa 311 f]) := by
  refine eStart (cc := cX4_crate) (nL := 3) (L := [some (.ref a), some (.int gr), some (.int w)]) hl (by decide) rfl (List.forall_mem_cons.mpr ⟨rfl, (List.forall_mem_cons.mpr ⟨rfl, (List.forall_mem_cons.mpr ⟨rfl, (fun _ h => absurd h List.not_mem_nil)⟩)⟩)⟩) (Nat.le_of_ble_eq_true rfl) ?_
  intro x rs C
  show eZ x E (eQ x E (fun w_ Γ => w_ = some (.int (gCrQ A gr w)) ∧ Γ = [eMO a o, eIA E o.sa 311 f]) rs) [eO a 4 [.ref o.sa, .ref o.pa, .ref o.ha, .ref o.xa, .int o.pn, .int o.ru, .ref o.ta, .int o.ty, .int o.sp, .int o.fr, .int o.re, .int o.ca, .int o.os, .int o.od, .ref o.na], eIA E o.sa 311 f, rs] 0 [some (.ref a), some (.int gr), some (.int w)] [] 0 0
  generalize hQ_ : eQ x E (fun w_ Γ => w_ = some (.int (gCrQ A gr w)) ∧ Γ = [eMO a o, eIA E o.sa 311 f]) rs = Q_
  refine z_iload_n C dX4_crate_0 rfl rfl ?_
  refine z_iconst (v := 0) C dX4_crate_1 (by decide) ?_
  refine z_iconst (v := 5) C dX4_crate_2 (by decide) ?_
  refine z_callS (As := [.int gr, .int 0, .int 5]) (rest := []) (Δ := [eO a 4 [.ref o.sa, .ref o.pa, .ref o.ha, .ref o.xa, .int o.pn, .int o.ru, .ref o.ta, .int o.ty, .int o.sp, .int o.fr, .int o.re, .int o.ca, .int o.os, .int o.od, .ref o.na], eIA E o.sa 311 f, rs]) [] [0, 1, 2] 3 (m_Min hl E gr 0 5) C dX4_crate_3 rfl rfl rfl q1724 q1725 q67 q1726 (by decide +kernel) rfl (ePm 3 rfl (by decide +kernel)) rfl rfl ⟨Nat.le_of_ble_eq_true rfl, Nat.le_of_ble_eq_true rfl⟩ (Nat.le_trans eS0 (Nat.le_of_ble_eq_true rfl)) ⟨Nat.le_of_ble_eq_true rfl, Nat.le_of_ble_eq_true rfl⟩ (fun v_ Γ_ hp_ => ?_)
  obtain ⟨rfl, rfl⟩ := hp_
  show eZ x E _ [eO a 4 [.ref o.sa, .ref o.pa, .ref o.ha, .ref o.xa, .int o.pn, .int o.ru, .ref o.ta, .int o.ty, .int o.sp, .int o.fr, .int o.re, .int o.ca, .int o.os, .int o.od, .ref o.na], eIA E o.sa 311 f, rs] 6 [some (.ref a), some (.int gr), some (.int w)] [.int (eB (eBt gr 0 5))] 0 0
  refine z_if_eq_B 18 C dX4_crate_6 (by decide) (fun h1 => ?_) (fun h1 => ?_)
  · refine z_ldc C dX4_crate_18 rfl q1727 ?_
    subst hQ_
    exact z_ret (Γ := [eO a 4 [.ref o.sa, .ref o.pa, .ref o.ha, .ref o.xa, .int o.pn, .int o.ru, .ref o.ta, .int o.ty, .int o.sp, .int o.fr, .int o.re, .int o.ca, .int o.os, .int o.od, .ref o.na], eIA E o.sa 311 f]) C dX4_crate_20 rfl rfl (Nat.le_of_ble_eq_true rfl) (Nat.le_of_ble_eq_true rfl) ⟨by rw [gCrQ, h1]; rfl, rfl⟩
  · refine z_iload_n C dX4_crate_9 rfl rfl ?_
    refine z_iconst (v := 0) C dX4_crate_10 (by decide) ?_
    refine z_iconst (v := 5) C dX4_crate_11 (by decide) ?_
    refine z_callS (As := [.int w, .int 0, .int 5]) (rest := []) (Δ := [eO a 4 [.ref o.sa, .ref o.pa, .ref o.ha, .ref o.xa, .int o.pn, .int o.ru, .ref o.ta, .int o.ty, .int o.sp, .int o.fr, .int o.re, .int o.ca, .int o.os, .int o.od, .ref o.na], eIA E o.sa 311 f, rs]) [] [0, 1, 2] 3 (m_Min hl E w 0 5) C dX4_crate_12 rfl rfl rfl q1724 q1725 q67 q1726 (by decide +kernel) rfl (ePm 3 rfl (by decide +kernel)) rfl rfl ⟨Nat.le_of_ble_eq_true rfl, Nat.le_of_ble_eq_true rfl⟩ (Nat.le_trans eS0 (Nat.le_of_ble_eq_true rfl)) ⟨Nat.le_of_ble_eq_true rfl, Nat.le_of_ble_eq_true rfl⟩ (fun v_ Γ_ hp_ => ?_)
    obtain ⟨rfl, rfl⟩ := hp_
    show eZ x E _ [eO a 4 [.ref o.sa, .ref o.pa, .ref o.ha, .ref o.xa, .int o.pn, .int o.ru, .ref o.ta, .int o.ty, .int o.sp, .int o.fr, .int o.re, .int o.ca, .int o.os, .int o.od, .ref o.na], eIA E o.sa 311 f, rs] 15 [some (.ref a), some (.int gr), some (.int w)] [.int (eB (eBt w 0 5))] 0 0
    refine z_if_ne_B 21 C dX4_crate_15 (by decide) (fun h2 => ?_) (fun h2 => ?_)
    · have hif : (eBt gr 0 5 && eBt w 0 5) = true := by rw [h1, h2]; rfl
      obtain ⟨k, hk, rfl⟩ := eBt_N h1
      have hk6 : k < 6 := Nat.lt_succ_of_le hk
      show eZ x E _ [eO a 4 [.ref o.sa, .ref o.pa, .ref o.ha, .ref o.xa, .int o.pn, .int o.ru, .ref o.ta, .int o.ty, .int o.sp, .int o.fr, .int o.re, .int o.ca, .int o.os, .int o.od, .ref o.na], eIA E o.sa 311 f, rs] 21 [some (.ref a), some (.int (nI k)), some (.int w)] [] 0 0
      obtain ⟨c, hc⟩ : ∃ c, A.cs[k]? = some c := ⟨_, List.getElem?_eq_getElem (by rw [hok.2.2.1]; exact hk6)⟩
      have hgC := gC_at hk6 hc
      obtain ⟨K, hK, rfl⟩ := eBt_N (h2)
      have hK2 : K < 6 := Nat.lt_succ_of_le hK
      have hK3 : K = 0 ∨ K = 1 ∨ K = 2 ∨ K = 3 ∨ K = 4 ∨ K = 5 := by omega
      rcases hK3 with rfl | rfl | rfl | rfl | rfl | rfl
      · show eZ x E _ [eO a 4 [.ref o.sa, .ref o.pa, .ref o.ha, .ref o.xa, .int o.pn, .int o.ru, .ref o.ta, .int o.ty, .int o.sp, .int o.fr, .int o.re, .int o.ca, .int o.os, .int o.od, .ref o.na], eIA E o.sa 311 f, rs] 21 [some (.ref a), some (.int (nI k)), some (.int (nI 0))] [] 0 0
        refine z_iload_n C dX4_crate_21 rfl rfl ?_
        refine z_iconst (v := 4) C dX4_crate_22 (by decide) ?_
        refine z_icmp_ne 33 C dX4_crate_23 (by decide) (fun h_ => ?_) (fun h_ => absurd h_ (by decide))
        refine z_aload_n C dX4_crate_33 rfl rfl ?_
        refine z_get eK4 0 0 C dX4_crate_34 rfl rfl q1671 (eSame1 rfl) (by decide) rfl ?_
        refine z_iload_n C dX4_crate_37 rfl rfl ?_
        refine z_callS (As := [.int (nI k)]) (rest := [.ref o.sa]) (Δ := [eO a 4 [.ref o.sa, .ref o.pa, .ref o.ha, .ref o.xa, .int o.pn, .int o.ru, .ref o.ta, .int o.ty, .int o.sp, .int o.fr, .int o.re, .int o.ca, .int o.os, .int o.od, .ref o.na], eIA E o.sa 311 f, rs]) [] [0, 1, 2] 1 (m_McrateAt hl E k) C dX4_crate_38 rfl rfl rfl q1812 q1813 q67 q1814 (by decide +kernel) rfl (ePm 3 rfl (by decide +kernel)) rfl rfl ⟨Nat.le_of_ble_eq_true rfl, Nat.le_of_ble_eq_true rfl⟩ (Nat.le_trans (eSm rfl eS0) (Nat.le_of_ble_eq_true rfl)) ⟨Nat.le_of_ble_eq_true rfl, Nat.le_of_ble_eq_true rfl⟩ (fun v_ Γ_ hp_ => ?_)
        obtain ⟨rfl, rfl⟩ := hp_
        show eZ x E _ [eO a 4 [.ref o.sa, .ref o.pa, .ref o.ha, .ref o.xa, .int o.pn, .int o.ru, .ref o.ta, .int o.ty, .int o.sp, .int o.fr, .int o.re, .int o.ca, .int o.os, .int o.od, .ref o.na], eIA E o.sa 311 f, rs] 41 [some (.ref a), some (.int (nI k)), some (.int (nI 0))] [.int (nI (216 + 5 * k)), .ref o.sa] 0 0
        refine z_iload_n C dX4_crate_41 rfl rfl ?_
        refine z_iconst (v := 5) C dX4_crate_42 (by decide) ?_
        refine z_icmp_ne 50 C dX4_crate_43 (by decide) (fun h_ => ?_) (fun h_ => absurd h_ (by decide))
        refine z_iload_n C dX4_crate_50 rfl rfl ?_
        refine z_iadd (w := nI (216 + 5 * k)) C dX4_crate_51 (nI_add (216 + 5 * k) 0) ?_
        refine z_iald (m := (216 + 5 * k)) (v := c.eggs) 1 C dX4_crate_52 rfl rfl (by omega) (by decide) (R.2.1 k c hc 0 (by decide)) ?_
        subst hQ_
        exact z_ret (Γ := [eO a 4 [.ref o.sa, .ref o.pa, .ref o.ha, .ref o.xa, .int o.pn, .int o.ru, .ref o.ta, .int o.ty, .int o.sp, .int o.fr, .int o.re, .int o.ca, .int o.os, .int o.od, .ref o.na], eIA E o.sa 311 f]) C dX4_crate_53 rfl rfl (Nat.le_of_ble_eq_true rfl) (Nat.le_of_ble_eq_true rfl) ⟨by rw [gCrQ, if_pos hif, hgC, gCrV, if_pos (by decide)], rfl⟩
      · show eZ x E _ [eO a 4 [.ref o.sa, .ref o.pa, .ref o.ha, .ref o.xa, .int o.pn, .int o.ru, .ref o.ta, .int o.ty, .int o.sp, .int o.fr, .int o.re, .int o.ca, .int o.os, .int o.od, .ref o.na], eIA E o.sa 311 f, rs] 21 [some (.ref a), some (.int (nI k)), some (.int (nI 1))] [] 0 0
        refine z_iload_n C dX4_crate_21 rfl rfl ?_
        refine z_iconst (v := 4) C dX4_crate_22 (by decide) ?_
        refine z_icmp_ne 33 C dX4_crate_23 (by decide) (fun h_ => ?_) (fun h_ => absurd h_ (by decide))
        refine z_aload_n C dX4_crate_33 rfl rfl ?_
        refine z_get eK4 0 0 C dX4_crate_34 rfl rfl q1671 (eSame1 rfl) (by decide) rfl ?_
        refine z_iload_n C dX4_crate_37 rfl rfl ?_
        refine z_callS (As := [.int (nI k)]) (rest := [.ref o.sa]) (Δ := [eO a 4 [.ref o.sa, .ref o.pa, .ref o.ha, .ref o.xa, .int o.pn, .int o.ru, .ref o.ta, .int o.ty, .int o.sp, .int o.fr, .int o.re, .int o.ca, .int o.os, .int o.od, .ref o.na], eIA E o.sa 311 f, rs]) [] [0, 1, 2] 1 (m_McrateAt hl E k) C dX4_crate_38 rfl rfl rfl q1812 q1813 q67 q1814 (by decide +kernel) rfl (ePm 3 rfl (by decide +kernel)) rfl rfl ⟨Nat.le_of_ble_eq_true rfl, Nat.le_of_ble_eq_true rfl⟩ (Nat.le_trans (eSm rfl eS0) (Nat.le_of_ble_eq_true rfl)) ⟨Nat.le_of_ble_eq_true rfl, Nat.le_of_ble_eq_true rfl⟩ (fun v_ Γ_ hp_ => ?_)
        obtain ⟨rfl, rfl⟩ := hp_
        show eZ x E _ [eO a 4 [.ref o.sa, .ref o.pa, .ref o.ha, .ref o.xa, .int o.pn, .int o.ru, .ref o.ta, .int o.ty, .int o.sp, .int o.fr, .int o.re, .int o.ca, .int o.os, .int o.od, .ref o.na], eIA E o.sa 311 f, rs] 41 [some (.ref a), some (.int (nI k)), some (.int (nI 1))] [.int (nI (216 + 5 * k)), .ref o.sa] 0 0
        refine z_iload_n C dX4_crate_41 rfl rfl ?_
        refine z_iconst (v := 5) C dX4_crate_42 (by decide) ?_
        refine z_icmp_ne 50 C dX4_crate_43 (by decide) (fun h_ => ?_) (fun h_ => absurd h_ (by decide))
        refine z_iload_n C dX4_crate_50 rfl rfl ?_
        refine z_iadd (w := nI (216 + 5 * k + 1)) C dX4_crate_51 (nI_add (216 + 5 * k) 1) ?_
        refine z_iald (m := (216 + 5 * k + 1)) (v := c.sold) 1 C dX4_crate_52 rfl rfl (by omega) (by decide) (R.2.1 k c hc 1 (by decide)) ?_
        subst hQ_
        exact z_ret (Γ := [eO a 4 [.ref o.sa, .ref o.pa, .ref o.ha, .ref o.xa, .int o.pn, .int o.ru, .ref o.ta, .int o.ty, .int o.sp, .int o.fr, .int o.re, .int o.ca, .int o.os, .int o.od, .ref o.na], eIA E o.sa 311 f]) C dX4_crate_53 rfl rfl (Nat.le_of_ble_eq_true rfl) (Nat.le_of_ble_eq_true rfl) ⟨by rw [gCrQ, if_pos hif, hgC, gCrV, if_neg (by decide), if_pos (by decide)], rfl⟩
      · show eZ x E _ [eO a 4 [.ref o.sa, .ref o.pa, .ref o.ha, .ref o.xa, .int o.pn, .int o.ru, .ref o.ta, .int o.ty, .int o.sp, .int o.fr, .int o.re, .int o.ca, .int o.os, .int o.od, .ref o.na], eIA E o.sa 311 f, rs] 21 [some (.ref a), some (.int (nI k)), some (.int (nI 2))] [] 0 0
        refine z_iload_n C dX4_crate_21 rfl rfl ?_
        refine z_iconst (v := 4) C dX4_crate_22 (by decide) ?_
        refine z_icmp_ne 33 C dX4_crate_23 (by decide) (fun h_ => ?_) (fun h_ => absurd h_ (by decide))
        refine z_aload_n C dX4_crate_33 rfl rfl ?_
        refine z_get eK4 0 0 C dX4_crate_34 rfl rfl q1671 (eSame1 rfl) (by decide) rfl ?_
        refine z_iload_n C dX4_crate_37 rfl rfl ?_
        refine z_callS (As := [.int (nI k)]) (rest := [.ref o.sa]) (Δ := [eO a 4 [.ref o.sa, .ref o.pa, .ref o.ha, .ref o.xa, .int o.pn, .int o.ru, .ref o.ta, .int o.ty, .int o.sp, .int o.fr, .int o.re, .int o.ca, .int o.os, .int o.od, .ref o.na], eIA E o.sa 311 f, rs]) [] [0, 1, 2] 1 (m_McrateAt hl E k) C dX4_crate_38 rfl rfl rfl q1812 q1813 q67 q1814 (by decide +kernel) rfl (ePm 3 rfl (by decide +kernel)) rfl rfl ⟨Nat.le_of_ble_eq_true rfl, Nat.le_of_ble_eq_true rfl⟩ (Nat.le_trans (eSm rfl eS0) (Nat.le_of_ble_eq_true rfl)) ⟨Nat.le_of_ble_eq_true rfl, Nat.le_of_ble_eq_true rfl⟩ (fun v_ Γ_ hp_ => ?_)
        obtain ⟨rfl, rfl⟩ := hp_
        show eZ x E _ [eO a 4 [.ref o.sa, .ref o.pa, .ref o.ha, .ref o.xa, .int o.pn, .int o.ru, .ref o.ta, .int o.ty, .int o.sp, .int o.fr, .int o.re, .int o.ca, .int o.os, .int o.od, .ref o.na], eIA E o.sa 311 f, rs] 41 [some (.ref a), some (.int (nI k)), some (.int (nI 2))] [.int (nI (216 + 5 * k)), .ref o.sa] 0 0
        refine z_iload_n C dX4_crate_41 rfl rfl ?_
        refine z_iconst (v := 5) C dX4_crate_42 (by decide) ?_
        refine z_icmp_ne 50 C dX4_crate_43 (by decide) (fun h_ => ?_) (fun h_ => absurd h_ (by decide))
        refine z_iload_n C dX4_crate_50 rfl rfl ?_
        refine z_iadd (w := nI (216 + 5 * k + 2)) C dX4_crate_51 (nI_add (216 + 5 * k) 2) ?_
        refine z_iald (m := (216 + 5 * k + 2)) (v := c.returned) 1 C dX4_crate_52 rfl rfl (by omega) (by decide) (R.2.1 k c hc 2 (by decide)) ?_
        subst hQ_
        exact z_ret (Γ := [eO a 4 [.ref o.sa, .ref o.pa, .ref o.ha, .ref o.xa, .int o.pn, .int o.ru, .ref o.ta, .int o.ty, .int o.sp, .int o.fr, .int o.re, .int o.ca, .int o.os, .int o.od, .ref o.na], eIA E o.sa 311 f]) C dX4_crate_53 rfl rfl (Nat.le_of_ble_eq_true rfl) (Nat.le_of_ble_eq_true rfl) ⟨by rw [gCrQ, if_pos hif, hgC, gCrV, if_neg (by decide), if_neg (by decide), if_pos (by decide)], rfl⟩
      · show eZ x E _ [eO a 4 [.ref o.sa, .ref o.pa, .ref o.ha, .ref o.xa, .int o.pn, .int o.ru, .ref o.ta, .int o.ty, .int o.sp, .int o.fr, .int o.re, .int o.ca, .int o.os, .int o.od, .ref o.na], eIA E o.sa 311 f, rs] 21 [some (.ref a), some (.int (nI k)), some (.int (nI 3))] [] 0 0
        refine z_iload_n C dX4_crate_21 rfl rfl ?_
        refine z_iconst (v := 4) C dX4_crate_22 (by decide) ?_
        refine z_icmp_ne 33 C dX4_crate_23 (by decide) (fun h_ => ?_) (fun h_ => absurd h_ (by decide))
        refine z_aload_n C dX4_crate_33 rfl rfl ?_
        refine z_get eK4 0 0 C dX4_crate_34 rfl rfl q1671 (eSame1 rfl) (by decide) rfl ?_
        refine z_iload_n C dX4_crate_37 rfl rfl ?_
        refine z_callS (As := [.int (nI k)]) (rest := [.ref o.sa]) (Δ := [eO a 4 [.ref o.sa, .ref o.pa, .ref o.ha, .ref o.xa, .int o.pn, .int o.ru, .ref o.ta, .int o.ty, .int o.sp, .int o.fr, .int o.re, .int o.ca, .int o.os, .int o.od, .ref o.na], eIA E o.sa 311 f, rs]) [] [0, 1, 2] 1 (m_McrateAt hl E k) C dX4_crate_38 rfl rfl rfl q1812 q1813 q67 q1814 (by decide +kernel) rfl (ePm 3 rfl (by decide +kernel)) rfl rfl ⟨Nat.le_of_ble_eq_true rfl, Nat.le_of_ble_eq_true rfl⟩ (Nat.le_trans (eSm rfl eS0) (Nat.le_of_ble_eq_true rfl)) ⟨Nat.le_of_ble_eq_true rfl, Nat.le_of_ble_eq_true rfl⟩ (fun v_ Γ_ hp_ => ?_)
        obtain ⟨rfl, rfl⟩ := hp_
        show eZ x E _ [eO a 4 [.ref o.sa, .ref o.pa, .ref o.ha, .ref o.xa, .int o.pn, .int o.ru, .ref o.ta, .int o.ty, .int o.sp, .int o.fr, .int o.re, .int o.ca, .int o.os, .int o.od, .ref o.na], eIA E o.sa 311 f, rs] 41 [some (.ref a), some (.int (nI k)), some (.int (nI 3))] [.int (nI (216 + 5 * k)), .ref o.sa] 0 0
        refine z_iload_n C dX4_crate_41 rfl rfl ?_
        refine z_iconst (v := 5) C dX4_crate_42 (by decide) ?_
        refine z_icmp_ne 50 C dX4_crate_43 (by decide) (fun h_ => ?_) (fun h_ => absurd h_ (by decide))
        refine z_iload_n C dX4_crate_50 rfl rfl ?_
        refine z_iadd (w := nI (216 + 5 * k + 3)) C dX4_crate_51 (nI_add (216 + 5 * k) 3) ?_
        refine z_iald (m := (216 + 5 * k + 3)) (v := c.cracked) 1 C dX4_crate_52 rfl rfl (by omega) (by decide) (R.2.1 k c hc 3 (by decide)) ?_
        subst hQ_
        exact z_ret (Γ := [eO a 4 [.ref o.sa, .ref o.pa, .ref o.ha, .ref o.xa, .int o.pn, .int o.ru, .ref o.ta, .int o.ty, .int o.sp, .int o.fr, .int o.re, .int o.ca, .int o.os, .int o.od, .ref o.na], eIA E o.sa 311 f]) C dX4_crate_53 rfl rfl (Nat.le_of_ble_eq_true rfl) (Nat.le_of_ble_eq_true rfl) ⟨by rw [gCrQ, if_pos hif, hgC, gCrV, if_neg (by decide), if_neg (by decide), if_neg (by decide), if_pos (by decide)], rfl⟩
      · show eZ x E _ [eO a 4 [.ref o.sa, .ref o.pa, .ref o.ha, .ref o.xa, .int o.pn, .int o.ru, .ref o.ta, .int o.ty, .int o.sp, .int o.fr, .int o.re, .int o.ca, .int o.os, .int o.od, .ref o.na], eIA E o.sa 311 f, rs] 21 [some (.ref a), some (.int (nI k)), some (.int (nI 4))] [] 0 0
        refine z_iload_n C dX4_crate_21 rfl rfl ?_
        refine z_iconst (v := 4) C dX4_crate_22 (by decide) ?_
        refine z_icmp_ne 33 C dX4_crate_23 (by decide) (fun h3 => ?_) (fun h3 => ?_)
        · exact absurd rfl h3
        · refine z_iload_n C dX4_crate_26 rfl rfl ?_
          refine z_callS (As := [.int (nI k)]) (rest := []) (Δ := [eO a 4 [.ref o.sa, .ref o.pa, .ref o.ha, .ref o.xa, .int o.pn, .int o.ru, .ref o.ta, .int o.ty, .int o.sp, .int o.fr, .int o.re, .int o.ca, .int o.os, .int o.od, .ref o.na], eIA E o.sa 311 f, rs]) [] [0, 1, 2] 1 (m_MpriceOf hl E (nI k)) C dX4_crate_27 rfl rfl rfl q1815 q1816 q67 q1817 (by decide +kernel) rfl (ePm 3 rfl (by decide +kernel)) rfl rfl ⟨Nat.le_of_ble_eq_true rfl, Nat.le_of_ble_eq_true rfl⟩ (Nat.le_trans eS0 (Nat.le_of_ble_eq_true rfl)) ⟨Nat.le_of_ble_eq_true rfl, Nat.le_of_ble_eq_true rfl⟩ (fun v_ Γ_ hp_ => ?_)
          obtain ⟨rfl, rfl⟩ := hp_
          show eZ x E _ [eO a 4 [.ref o.sa, .ref o.pa, .ref o.ha, .ref o.xa, .int o.pn, .int o.ru, .ref o.ta, .int o.ty, .int o.sp, .int o.fr, .int o.re, .int o.ca, .int o.os, .int o.od, .ref o.na], eIA E o.sa 311 f, rs] 30 [some (.ref a), some (.int (nI k)), some (.int (nI 4))] [.int (gMPr (nI k))] 0 0
          refine z_goto 53 C dX4_crate_30 (by decide) ?_
          subst hQ_
          exact z_ret (Γ := [eO a 4 [.ref o.sa, .ref o.pa, .ref o.ha, .ref o.xa, .int o.pn, .int o.ru, .ref o.ta, .int o.ty, .int o.sp, .int o.fr, .int o.re, .int o.ca, .int o.os, .int o.od, .ref o.na], eIA E o.sa 311 f]) C dX4_crate_53 rfl rfl (Nat.le_of_ble_eq_true rfl) (Nat.le_of_ble_eq_true rfl) ⟨by rw [gCrQ, if_pos hif, hgC, gCrV, if_neg (by decide), if_neg (by decide), if_neg (by decide), if_neg (by decide), if_pos (by decide), gMPr_eq k hk6], rfl⟩
      · show eZ x E _ [eO a 4 [.ref o.sa, .ref o.pa, .ref o.ha, .ref o.xa, .int o.pn, .int o.ru, .ref o.ta, .int o.ty, .int o.sp, .int o.fr, .int o.re, .int o.ca, .int o.os, .int o.od, .ref o.na], eIA E o.sa 311 f, rs] 21 [some (.ref a), some (.int (nI k)), some (.int (nI 5))] [] 0 0
        refine z_iload_n C dX4_crate_21 rfl rfl ?_
        refine z_iconst (v := 4) C dX4_crate_22 (by decide) ?_
        refine z_icmp_ne 33 C dX4_crate_23 (by decide) (fun h_ => ?_) (fun h_ => absurd h_ (by decide))
        refine z_aload_n C dX4_crate_33 rfl rfl ?_
        refine z_get eK4 0 0 C dX4_crate_34 rfl rfl q1671 (eSame1 rfl) (by decide) rfl ?_
        refine z_iload_n C dX4_crate_37 rfl rfl ?_
        refine z_callS (As := [.int (nI k)]) (rest := [.ref o.sa]) (Δ := [eO a 4 [.ref o.sa, .ref o.pa, .ref o.ha, .ref o.xa, .int o.pn, .int o.ru, .ref o.ta, .int o.ty, .int o.sp, .int o.fr, .int o.re, .int o.ca, .int o.os, .int o.od, .ref o.na], eIA E o.sa 311 f, rs]) [] [0, 1, 2] 1 (m_McrateAt hl E k) C dX4_crate_38 rfl rfl rfl q1812 q1813 q67 q1814 (by decide +kernel) rfl (ePm 3 rfl (by decide +kernel)) rfl rfl ⟨Nat.le_of_ble_eq_true rfl, Nat.le_of_ble_eq_true rfl⟩ (Nat.le_trans (eSm rfl eS0) (Nat.le_of_ble_eq_true rfl)) ⟨Nat.le_of_ble_eq_true rfl, Nat.le_of_ble_eq_true rfl⟩ (fun v_ Γ_ hp_ => ?_)
        obtain ⟨rfl, rfl⟩ := hp_
        show eZ x E _ [eO a 4 [.ref o.sa, .ref o.pa, .ref o.ha, .ref o.xa, .int o.pn, .int o.ru, .ref o.ta, .int o.ty, .int o.sp, .int o.fr, .int o.re, .int o.ca, .int o.os, .int o.od, .ref o.na], eIA E o.sa 311 f, rs] 41 [some (.ref a), some (.int (nI k)), some (.int (nI 5))] [.int (nI (216 + 5 * k)), .ref o.sa] 0 0
        refine z_iload_n C dX4_crate_41 rfl rfl ?_
        refine z_iconst (v := 5) C dX4_crate_42 (by decide) ?_
        refine z_icmp_ne 50 C dX4_crate_43 (by decide) (fun h3 => ?_) (fun h3 => ?_)
        · exact absurd rfl h3
        · refine z_iconst (v := 4) C dX4_crate_46 (by decide) ?_
          refine z_goto 51 C dX4_crate_47 (by decide) ?_
          refine z_iadd (w := nI (216 + 5 * k + 4)) C dX4_crate_51 (nI_add (216 + 5 * k) 4) ?_
          refine z_iald (m := (216 + 5 * k + 4)) (v := c.all) 1 C dX4_crate_52 rfl rfl (by omega) (by decide) (R.2.1 k c hc 4 (by decide)) ?_
          subst hQ_
          exact z_ret (Γ := [eO a 4 [.ref o.sa, .ref o.pa, .ref o.ha, .ref o.xa, .int o.pn, .int o.ru, .ref o.ta, .int o.ty, .int o.sp, .int o.fr, .int o.re, .int o.ca, .int o.os, .int o.od, .ref o.na], eIA E o.sa 311 f]) C dX4_crate_53 rfl rfl (Nat.le_of_ble_eq_true rfl) (Nat.le_of_ble_eq_true rfl) ⟨by rw [gCrQ, if_pos hif, hgC, gCrV, if_neg (by decide), if_neg (by decide), if_neg (by decide), if_neg (by decide), if_neg (by decide)], rfl⟩
    · refine z_ldc C dX4_crate_18 rfl q1727 ?_
      subst hQ_
      exact z_ret (Γ := [eO a 4 [.ref o.sa, .ref o.pa, .ref o.ha, .ref o.xa, .int o.pn, .int o.ru, .ref o.ta, .int o.ty, .int o.sp, .int o.fr, .int o.re, .int o.ca, .int o.os, .int o.od, .ref o.na], eIA E o.sa 311 f]) C dX4_crate_20 rfl rfl (Nat.le_of_ble_eq_true rfl) (Nat.le_of_ble_eq_true rfl) ⟨by rw [gCrQ, h1, h2]; rfl, rfl⟩

set_option maxHeartbeats 4000000 in
theorem m_Mbook {l : Launch} (hl : l.stackTraces = false) (E : eEn) (a : Nat) (o : Mo) (f : Nat → Int32) (A : Am) (hok : gOk A) (hwf : gWf A) (R : Rep f A) (p w : Int32) : eMet l E yX4_book (ws_ yX4_book cX4_book 3 (some .int)) ({ frames := 1, cells := 0, slots := 0, locals := 22 }) [.ref a, .int p, .int w] [eO a 4 [.ref o.sa, .ref o.pa, .ref o.ha, .ref o.xa, .int o.pn, .int o.ru, .ref o.ta, .int o.ty, .int o.sp, .int o.fr, .int o.re, .int o.ca, .int o.os, .int o.od, .ref o.na], eIA E o.sa 311 f] (fun w_ Γ => w_ = some (.int (gBkQ A p w)) ∧ Γ = [eMO a o, eIA E o.sa 311 f]) := by
  refine eStart (cc := cX4_book) (nL := 3) (L := [some (.ref a), some (.int p), some (.int w)]) hl (by decide) rfl (List.forall_mem_cons.mpr ⟨rfl, (List.forall_mem_cons.mpr ⟨rfl, (List.forall_mem_cons.mpr ⟨rfl, (fun _ h => absurd h List.not_mem_nil)⟩)⟩)⟩) (Nat.le_of_ble_eq_true rfl) ?_
  intro x rs C
  show eZ x E (eQ x E (fun w_ Γ => w_ = some (.int (gBkQ A p w)) ∧ Γ = [eMO a o, eIA E o.sa 311 f]) rs) [eO a 4 [.ref o.sa, .ref o.pa, .ref o.ha, .ref o.xa, .int o.pn, .int o.ru, .ref o.ta, .int o.ty, .int o.sp, .int o.fr, .int o.re, .int o.ca, .int o.os, .int o.od, .ref o.na], eIA E o.sa 311 f, rs] 0 [some (.ref a), some (.int p), some (.int w)] [] 0 0
  generalize hQ_ : eQ x E (fun w_ Γ => w_ = some (.int (gBkQ A p w)) ∧ Γ = [eMO a o, eIA E o.sa 311 f]) rs = Q_
  refine z_iload_n C dX4_book_0 rfl rfl ?_
  refine z_if_lt 13 C dX4_book_1 (by decide) (fun h1 => ?_) (fun h1 => ?_)
  · refine z_ldc C dX4_book_13 rfl q1727 ?_
    subst hQ_
    exact z_ret (Γ := [eO a 4 [.ref o.sa, .ref o.pa, .ref o.ha, .ref o.xa, .int o.pn, .int o.ru, .ref o.ta, .int o.ty, .int o.sp, .int o.fr, .int o.re, .int o.ca, .int o.os, .int o.od, .ref o.na], eIA E o.sa 311 f]) C dX4_book_15 rfl rfl (Nat.le_of_ble_eq_true rfl) (Nat.le_of_ble_eq_true rfl) ⟨by rw [gBkQ, if_neg (fun h => h.1 h1)], rfl⟩
  · refine z_iload_n C dX4_book_4 rfl rfl ?_
    refine z_iconst (v := 0) C dX4_book_5 (by decide) ?_
    refine z_iconst (v := 4) C dX4_book_6 (by decide) ?_
    refine z_callS (As := [.int w, .int 0, .int 4]) (rest := []) (Δ := [eO a 4 [.ref o.sa, .ref o.pa, .ref o.ha, .ref o.xa, .int o.pn, .int o.ru, .ref o.ta, .int o.ty, .int o.sp, .int o.fr, .int o.re, .int o.ca, .int o.os, .int o.od, .ref o.na], eIA E o.sa 311 f, rs]) [] [0, 1, 2] 3 (m_Min hl E w 0 4) C dX4_book_7 rfl rfl rfl q1724 q1725 q67 q1726 (by decide +kernel) rfl (ePm 3 rfl (by decide +kernel)) rfl rfl ⟨Nat.le_of_ble_eq_true rfl, Nat.le_of_ble_eq_true rfl⟩ (Nat.le_trans eS0 (Nat.le_of_ble_eq_true rfl)) ⟨Nat.le_of_ble_eq_true rfl, Nat.le_of_ble_eq_true rfl⟩ (fun v_ Γ_ hp_ => ?_)
    obtain ⟨rfl, rfl⟩ := hp_
    show eZ x E _ [eO a 4 [.ref o.sa, .ref o.pa, .ref o.ha, .ref o.xa, .int o.pn, .int o.ru, .ref o.ta, .int o.ty, .int o.sp, .int o.fr, .int o.re, .int o.ca, .int o.os, .int o.od, .ref o.na], eIA E o.sa 311 f, rs] 10 [some (.ref a), some (.int p), some (.int w)] [.int (eB (eBt w 0 4))] 0 0
    refine z_if_ne_B 16 C dX4_book_10 (by decide) (fun h2 => ?_) (fun h2 => ?_)
    · have hif : ¬ p < 0 ∧ eBt w 0 4 = true := ⟨h1, h2⟩
      obtain ⟨q, hq31, rfl⟩ := nI_of h1
      show eZ x E _ [eO a 4 [.ref o.sa, .ref o.pa, .ref o.ha, .ref o.xa, .int o.pn, .int o.ru, .ref o.ta, .int o.ty, .int o.sp, .int o.fr, .int o.re, .int o.ca, .int o.os, .int o.od, .ref o.na], eIA E o.sa 311 f, rs] 16 [some (.ref a), some (.int (nI q)), some (.int w)] [] 0 0
      have hnq : nN (nI q) = q := by unfold nN; rw [nI_toInt hq31]; omega
      have hb10 : A.bs.length ≤ 10 := hok.2.2.2.1
      refine z_iload_n C dX4_book_16 rfl rfl ?_
      refine z_aload_n C dX4_book_17 rfl rfl ?_
      refine z_get eK4 0 0 C dX4_book_18 rfl rfl q1671 (eSame1 rfl) (by decide) rfl ?_
      refine z_sipush (v := 305) C dX4_book_21 (by decide) ?_
      refine z_iald (m := 305) (v := nI A.bs.length) 1 C dX4_book_24 rfl rfl (by omega) (by decide) (R.2.2.2.1 9 (by decide)) ?_
      refine z_icmp_ge 45 C dX4_book_25 (by decide) (fun h3 => ?_) (fun h3 => ?_)
      · refine z_ldc C dX4_book_45 rfl q1833 ?_
        subst hQ_
        exact z_ret (Γ := [eO a 4 [.ref o.sa, .ref o.pa, .ref o.ha, .ref o.xa, .int o.pn, .int o.ru, .ref o.ta, .int o.ty, .int o.sp, .int o.fr, .int o.re, .int o.ca, .int o.os, .int o.od, .ref o.na], eIA E o.sa 311 f]) C dX4_book_47 rfl rfl (Nat.le_of_ble_eq_true rfl) (Nat.le_of_ble_eq_true rfl) ⟨by rw [gBkQ, if_pos hif, hnq, List.getElem?_eq_none ((nI_leI (by omega) hq31).mp h3)], rfl⟩
      · have hql : q < A.bs.length := by rcases Nat.lt_or_ge q A.bs.length with h | h; exact h; exact absurd (nI_le h hq31) h3
        obtain ⟨e, he⟩ : ∃ e, A.bs[q]? = some e := ⟨_, List.getElem?_eq_getElem hql⟩
        obtain ⟨K, hK, rfl⟩ := eBt_N (h2)
        have hK2 : K < 5 := Nat.lt_succ_of_le hK
        have hK3 : K = 0 ∨ K = 1 ∨ K = 2 ∨ K = 3 ∨ K = 4 := by omega
        rcases hK3 with rfl | rfl | rfl | rfl | rfl
        · show eZ x E _ [eO a 4 [.ref o.sa, .ref o.pa, .ref o.ha, .ref o.xa, .int o.pn, .int o.ru, .ref o.ta, .int o.ty, .int o.sp, .int o.fr, .int o.re, .int o.ca, .int o.os, .int o.od, .ref o.na], eIA E o.sa 311 f, rs] 28 [some (.ref a), some (.int (nI q)), some (.int (nI 0))] [] 0 0
          refine z_aload_n C dX4_book_28 rfl rfl ?_
          refine z_get eK4 0 0 C dX4_book_29 rfl rfl q1671 (eSame1 rfl) (by decide) rfl ?_
          refine z_sipush (v := 246) C dX4_book_32 (by decide) ?_
          refine z_iconst (v := 5) C dX4_book_35 (by decide) ?_
          refine z_iload_n C dX4_book_36 rfl rfl ?_
          refine z_imul (w := nI (5 * q)) C dX4_book_37 (nI_mul_ 5 q) ?_
          refine z_iadd (w := nI (246 + (5 * q))) C dX4_book_38 (nI_add 246 (5 * q)) ?_
          refine z_iload_n C dX4_book_39 rfl rfl ?_
          refine z_iadd (w := nI (246 + (5 * q))) C dX4_book_40 (nI_add (246 + (5 * q)) 0) ?_
          refine z_iald (m := (246 + (5 * q))) (v := e.tick) 1 C dX4_book_41 rfl rfl (by omega) (by decide) (R.2.2.1 q e he 0 (by decide)) ?_
          refine z_goto 47 C dX4_book_42 (by decide) ?_
          subst hQ_
          exact z_ret (Γ := [eO a 4 [.ref o.sa, .ref o.pa, .ref o.ha, .ref o.xa, .int o.pn, .int o.ru, .ref o.ta, .int o.ty, .int o.sp, .int o.fr, .int o.re, .int o.ca, .int o.os, .int o.od, .ref o.na], eIA E o.sa 311 f]) C dX4_book_47 rfl rfl (Nat.le_of_ble_eq_true rfl) (Nat.le_of_ble_eq_true rfl) ⟨by rw [gBkQ, if_pos hif, hnq, he]; show _ = some (Value.int (gBkV e (nI 0))); rw [gBkV, if_pos (by decide)], rfl⟩
        · show eZ x E _ [eO a 4 [.ref o.sa, .ref o.pa, .ref o.ha, .ref o.xa, .int o.pn, .int o.ru, .ref o.ta, .int o.ty, .int o.sp, .int o.fr, .int o.re, .int o.ca, .int o.os, .int o.od, .ref o.na], eIA E o.sa 311 f, rs] 28 [some (.ref a), some (.int (nI q)), some (.int (nI 1))] [] 0 0
          refine z_aload_n C dX4_book_28 rfl rfl ?_
          refine z_get eK4 0 0 C dX4_book_29 rfl rfl q1671 (eSame1 rfl) (by decide) rfl ?_
          refine z_sipush (v := 246) C dX4_book_32 (by decide) ?_
          refine z_iconst (v := 5) C dX4_book_35 (by decide) ?_
          refine z_iload_n C dX4_book_36 rfl rfl ?_
          refine z_imul (w := nI (5 * q)) C dX4_book_37 (nI_mul_ 5 q) ?_
          refine z_iadd (w := nI (246 + (5 * q))) C dX4_book_38 (nI_add 246 (5 * q)) ?_
          refine z_iload_n C dX4_book_39 rfl rfl ?_
          refine z_iadd (w := nI (246 + (5 * q) + 1)) C dX4_book_40 (nI_add (246 + (5 * q)) 1) ?_
          refine z_iald (m := (246 + (5 * q) + 1)) (v := e.lane) 1 C dX4_book_41 rfl rfl (by omega) (by decide) (R.2.2.1 q e he 1 (by decide)) ?_
          refine z_goto 47 C dX4_book_42 (by decide) ?_
          subst hQ_
          exact z_ret (Γ := [eO a 4 [.ref o.sa, .ref o.pa, .ref o.ha, .ref o.xa, .int o.pn, .int o.ru, .ref o.ta, .int o.ty, .int o.sp, .int o.fr, .int o.re, .int o.ca, .int o.os, .int o.od, .ref o.na], eIA E o.sa 311 f]) C dX4_book_47 rfl rfl (Nat.le_of_ble_eq_true rfl) (Nat.le_of_ble_eq_true rfl) ⟨by rw [gBkQ, if_pos hif, hnq, he]; show _ = some (Value.int (gBkV e (nI 1))); rw [gBkV, if_neg (by decide), if_pos (by decide)], rfl⟩
        · show eZ x E _ [eO a 4 [.ref o.sa, .ref o.pa, .ref o.ha, .ref o.xa, .int o.pn, .int o.ru, .ref o.ta, .int o.ty, .int o.sp, .int o.fr, .int o.re, .int o.ca, .int o.os, .int o.od, .ref o.na], eIA E o.sa 311 f, rs] 28 [some (.ref a), some (.int (nI q)), some (.int (nI 2))] [] 0 0
          refine z_aload_n C dX4_book_28 rfl rfl ?_
          refine z_get eK4 0 0 C dX4_book_29 rfl rfl q1671 (eSame1 rfl) (by decide) rfl ?_
          refine z_sipush (v := 246) C dX4_book_32 (by decide) ?_
          refine z_iconst (v := 5) C dX4_book_35 (by decide) ?_
          refine z_iload_n C dX4_book_36 rfl rfl ?_
          refine z_imul (w := nI (5 * q)) C dX4_book_37 (nI_mul_ 5 q) ?_
          refine z_iadd (w := nI (246 + (5 * q))) C dX4_book_38 (nI_add 246 (5 * q)) ?_
          refine z_iload_n C dX4_book_39 rfl rfl ?_
          refine z_iadd (w := nI (246 + (5 * q) + 2)) C dX4_book_40 (nI_add (246 + (5 * q)) 2) ?_
          refine z_iald (m := (246 + (5 * q) + 2)) (v := e.w) 1 C dX4_book_41 rfl rfl (by omega) (by decide) (R.2.2.1 q e he 2 (by decide)) ?_
          refine z_goto 47 C dX4_book_42 (by decide) ?_
          subst hQ_
          exact z_ret (Γ := [eO a 4 [.ref o.sa, .ref o.pa, .ref o.ha, .ref o.xa, .int o.pn, .int o.ru, .ref o.ta, .int o.ty, .int o.sp, .int o.fr, .int o.re, .int o.ca, .int o.os, .int o.od, .ref o.na], eIA E o.sa 311 f]) C dX4_book_47 rfl rfl (Nat.le_of_ble_eq_true rfl) (Nat.le_of_ble_eq_true rfl) ⟨by rw [gBkQ, if_pos hif, hnq, he]; show _ = some (Value.int (gBkV e (nI 2))); rw [gBkV, if_neg (by decide), if_neg (by decide), if_pos (by decide)], rfl⟩
        · show eZ x E _ [eO a 4 [.ref o.sa, .ref o.pa, .ref o.ha, .ref o.xa, .int o.pn, .int o.ru, .ref o.ta, .int o.ty, .int o.sp, .int o.fr, .int o.re, .int o.ca, .int o.os, .int o.od, .ref o.na], eIA E o.sa 311 f, rs] 28 [some (.ref a), some (.int (nI q)), some (.int (nI 3))] [] 0 0
          refine z_aload_n C dX4_book_28 rfl rfl ?_
          refine z_get eK4 0 0 C dX4_book_29 rfl rfl q1671 (eSame1 rfl) (by decide) rfl ?_
          refine z_sipush (v := 246) C dX4_book_32 (by decide) ?_
          refine z_iconst (v := 5) C dX4_book_35 (by decide) ?_
          refine z_iload_n C dX4_book_36 rfl rfl ?_
          refine z_imul (w := nI (5 * q)) C dX4_book_37 (nI_mul_ 5 q) ?_
          refine z_iadd (w := nI (246 + (5 * q))) C dX4_book_38 (nI_add 246 (5 * q)) ?_
          refine z_iload_n C dX4_book_39 rfl rfl ?_
          refine z_iadd (w := nI (246 + (5 * q) + 3)) C dX4_book_40 (nI_add (246 + (5 * q)) 3) ?_
          refine z_iald (m := (246 + (5 * q) + 3)) (v := e.grade) 1 C dX4_book_41 rfl rfl (by omega) (by decide) (R.2.2.1 q e he 3 (by decide)) ?_
          refine z_goto 47 C dX4_book_42 (by decide) ?_
          subst hQ_
          exact z_ret (Γ := [eO a 4 [.ref o.sa, .ref o.pa, .ref o.ha, .ref o.xa, .int o.pn, .int o.ru, .ref o.ta, .int o.ty, .int o.sp, .int o.fr, .int o.re, .int o.ca, .int o.os, .int o.od, .ref o.na], eIA E o.sa 311 f]) C dX4_book_47 rfl rfl (Nat.le_of_ble_eq_true rfl) (Nat.le_of_ble_eq_true rfl) ⟨by rw [gBkQ, if_pos hif, hnq, he]; show _ = some (Value.int (gBkV e (nI 3))); rw [gBkV, if_neg (by decide), if_neg (by decide), if_neg (by decide), if_pos (by decide)], rfl⟩
        · show eZ x E _ [eO a 4 [.ref o.sa, .ref o.pa, .ref o.ha, .ref o.xa, .int o.pn, .int o.ru, .ref o.ta, .int o.ty, .int o.sp, .int o.fr, .int o.re, .int o.ca, .int o.os, .int o.od, .ref o.na], eIA E o.sa 311 f, rs] 28 [some (.ref a), some (.int (nI q)), some (.int (nI 4))] [] 0 0
          refine z_aload_n C dX4_book_28 rfl rfl ?_
          refine z_get eK4 0 0 C dX4_book_29 rfl rfl q1671 (eSame1 rfl) (by decide) rfl ?_
          refine z_sipush (v := 246) C dX4_book_32 (by decide) ?_
          refine z_iconst (v := 5) C dX4_book_35 (by decide) ?_
          refine z_iload_n C dX4_book_36 rfl rfl ?_
          refine z_imul (w := nI (5 * q)) C dX4_book_37 (nI_mul_ 5 q) ?_
          refine z_iadd (w := nI (246 + (5 * q))) C dX4_book_38 (nI_add 246 (5 * q)) ?_
          refine z_iload_n C dX4_book_39 rfl rfl ?_
          refine z_iadd (w := nI (246 + (5 * q) + 4)) C dX4_book_40 (nI_add (246 + (5 * q)) 4) ?_
          refine z_iald (m := (246 + (5 * q) + 4)) (v := eB e.cr) 1 C dX4_book_41 rfl rfl (by omega) (by decide) (R.2.2.1 q e he 4 (by decide)) ?_
          refine z_goto 47 C dX4_book_42 (by decide) ?_
          subst hQ_
          exact z_ret (Γ := [eO a 4 [.ref o.sa, .ref o.pa, .ref o.ha, .ref o.xa, .int o.pn, .int o.ru, .ref o.ta, .int o.ty, .int o.sp, .int o.fr, .int o.re, .int o.ca, .int o.os, .int o.od, .ref o.na], eIA E o.sa 311 f]) C dX4_book_47 rfl rfl (Nat.le_of_ble_eq_true rfl) (Nat.le_of_ble_eq_true rfl) ⟨by rw [gBkQ, if_pos hif, hnq, he]; show _ = some (Value.int (gBkV e (nI 4))); rw [gBkV, if_neg (by decide), if_neg (by decide), if_neg (by decide), if_neg (by decide)], rfl⟩
    · refine z_ldc C dX4_book_13 rfl q1727 ?_
      subst hQ_
      exact z_ret (Γ := [eO a 4 [.ref o.sa, .ref o.pa, .ref o.ha, .ref o.xa, .int o.pn, .int o.ru, .ref o.ta, .int o.ty, .int o.sp, .int o.fr, .int o.re, .int o.ca, .int o.os, .int o.od, .ref o.na], eIA E o.sa 311 f]) C dX4_book_15 rfl rfl (Nat.le_of_ble_eq_true rfl) (Nat.le_of_ble_eq_true rfl) ⟨by rw [gBkQ, if_neg (fun h => by rw [h2] at h; cases h.2)], rfl⟩

theorem gMBar_w (st : Nat → Int32) (lv : Lv) (gs : List Eg) : gMBar st lv gs lv.li = (match gs with | [] => 1 | g :: _ => gBar st (gStL lv) (gStE lv g)) := by cases gs <;> rfl

set_option maxHeartbeats 4000000 in
theorem m_Mwhy {l : Launch} (hl : l.stackTraces = false) (E : eEn) (a : Nat) (o : Mo) (f : Nat → Int32) (A : Am) (hok : gOk A) (hwf : gWf A) (R : Rep f A) (ln : Int32) : eMet l E yX4_why (ws_ yX4_why cX4_why 2 (some .int)) ({ frames := 4, cells := 0, slots := 0, locals := 88 }) [.ref a, .int ln] [eO a 4 [.ref o.sa, .ref o.pa, .ref o.ha, .ref o.xa, .int o.pn, .int o.ru, .ref o.ta, .int o.ty, .int o.sp, .int o.fr, .int o.re, .int o.ca, .int o.os, .int o.od, .ref o.na], eIA E o.sa 311 f] (fun w_ Γ => w_ = some (.int (gWhyQ A ln)) ∧ Γ = [eMO a o, eIA E o.sa 311 f]) := by
  refine eStart (cc := cX4_why) (nL := 2) (L := [some (.ref a), some (.int ln)]) hl (by decide) rfl (List.forall_mem_cons.mpr ⟨rfl, (List.forall_mem_cons.mpr ⟨rfl, (fun _ h => absurd h List.not_mem_nil)⟩)⟩) (Nat.le_of_ble_eq_true rfl) ?_
  intro x rs C
  show eZ x E (eQ x E (fun w_ Γ => w_ = some (.int (gWhyQ A ln)) ∧ Γ = [eMO a o, eIA E o.sa 311 f]) rs) [eO a 4 [.ref o.sa, .ref o.pa, .ref o.ha, .ref o.xa, .int o.pn, .int o.ru, .ref o.ta, .int o.ty, .int o.sp, .int o.fr, .int o.re, .int o.ca, .int o.os, .int o.od, .ref o.na], eIA E o.sa 311 f, rs] 0 [some (.ref a), some (.int ln)] [] 0 0
  generalize hQ_ : eQ x E (fun w_ Γ => w_ = some (.int (gWhyQ A ln)) ∧ Γ = [eMO a o, eIA E o.sa 311 f]) rs = Q_
  refine z_iload_n C dX4_why_0 rfl rfl ?_
  refine z_callS (As := [.int ln]) (rest := []) (Δ := [eO a 4 [.ref o.sa, .ref o.pa, .ref o.ha, .ref o.xa, .int o.pn, .int o.ru, .ref o.ta, .int o.ty, .int o.sp, .int o.fr, .int o.re, .int o.ca, .int o.os, .int o.od, .ref o.na], eIA E o.sa 311 f, rs]) [] [0, 1, 2] 1 (m_MisLane hl E ln) C dX4_why_1 rfl rfl rfl q1721 q1722 q67 q1723 (by decide +kernel) rfl (ePm 3 rfl (by decide +kernel)) rfl rfl ⟨Nat.le_of_ble_eq_true rfl, Nat.le_of_ble_eq_true rfl⟩ (Nat.le_trans eS0 (Nat.le_of_ble_eq_true rfl)) ⟨Nat.le_of_ble_eq_true rfl, Nat.le_of_ble_eq_true rfl⟩ (fun v_ Γ_ hp_ => ?_)
  obtain ⟨rfl, rfl⟩ := hp_
  show eZ x E _ [eO a 4 [.ref o.sa, .ref o.pa, .ref o.ha, .ref o.xa, .int o.pn, .int o.ru, .ref o.ta, .int o.ty, .int o.sp, .int o.fr, .int o.re, .int o.ca, .int o.os, .int o.od, .ref o.na], eIA E o.sa 311 f, rs] 4 [some (.ref a), some (.int ln)] [.int (eB (eBt ln 0 3))] 0 0
  refine z_if_eq_B 26 C dX4_why_4 (by decide) (fun h1 => ?_) (fun h1 => ?_)
  · refine z_ldc C dX4_why_26 rfl q1727 ?_
    subst hQ_
    exact z_ret (Γ := [eO a 4 [.ref o.sa, .ref o.pa, .ref o.ha, .ref o.xa, .int o.pn, .int o.ru, .ref o.ta, .int o.ty, .int o.sp, .int o.fr, .int o.re, .int o.ca, .int o.os, .int o.od, .ref o.na], eIA E o.sa 311 f]) C dX4_why_28 rfl rfl (Nat.le_of_ble_eq_true rfl) (Nat.le_of_ble_eq_true rfl) ⟨by rw [gWhyQ, if_neg (by rw [h1]; decide)], rfl⟩
  · have hif := h1
    obtain ⟨N, hN, rfl⟩ := eBt_N (h1)
    have hN4 : N < 4 := Nat.lt_succ_of_le hN
    obtain ⟨⟨lv, gs⟩, hx⟩ : ∃ q_, A.ls[N]? = some q_ := ⟨_, List.getElem?_eq_getElem (by rw [hok.1]; exact hN4)⟩
    have h8 : gs.length ≤ 8 := hok.2.1 _ (List.mem_of_getElem? hx)
    have hz : rZ N gs A.cs A.bs := ⟨hN4, h8, Nat.le_of_eq hok.2.2.1, hok.2.2.2.1⟩
    have R0 : rP f f N lv gs A.cs A.bs (gTF A) A.st := rP_of R hx
    show eZ x E _ [eO a 4 [.ref o.sa, .ref o.pa, .ref o.ha, .ref o.xa, .int o.pn, .int o.ru, .ref o.ta, .int o.ty, .int o.sp, .int o.fr, .int o.re, .int o.ca, .int o.os, .int o.od, .ref o.na], eIA E o.sa 311 f, rs] 7 [some (.ref a), some (.int (nI N))] [] 0 0
    have hwx := hwf.1 _ (List.mem_of_getElem? hx)
    have hv : gWfL lv := hwx.1
    have hgs : ∀ g ∈ gs, gEgOk g = true := hwx.2
    have hS := hwf.2.2.1
    have hgL := gL_at hN4 hx
    refine z_aload_n C dX4_why_7 rfl rfl ?_
    refine z_iload_n C dX4_why_8 rfl rfl ?_
    refine z_aload_n C dX4_why_9 rfl rfl ?_
    refine z_get eK4 0 0 C dX4_why_10 rfl rfl q1671 (eSame1 rfl) (by decide) rfl ?_
    refine z_iload_n C dX4_why_13 rfl rfl ?_
    refine z_callS (As := [.int (nI N)]) (rest := [.ref o.sa, .int (nI N), .ref a]) (Δ := [eO a 4 [.ref o.sa, .ref o.pa, .ref o.ha, .ref o.xa, .int o.pn, .int o.ru, .ref o.ta, .int o.ty, .int o.sp, .int o.fr, .int o.re, .int o.ca, .int o.os, .int o.od, .ref o.na], eIA E o.sa 311 f, rs]) [] [0, 1, 2] 1 (m_MlaneAt hl E N) C dX4_why_14 rfl rfl rfl q1668 q1669 q67 q1670 (by decide +kernel) rfl (ePm 3 rfl (by decide +kernel)) rfl rfl ⟨Nat.le_of_ble_eq_true rfl, Nat.le_of_ble_eq_true rfl⟩ (Nat.le_trans (eSm rfl (eSm rfl (eSm rfl eS0))) (Nat.le_of_ble_eq_true rfl)) ⟨Nat.le_of_ble_eq_true rfl, Nat.le_of_ble_eq_true rfl⟩ (fun v_ Γ_ hp_ => ?_)
    obtain ⟨rfl, rfl⟩ := hp_
    show eZ x E _ [eO a 4 [.ref o.sa, .ref o.pa, .ref o.ha, .ref o.xa, .int o.pn, .int o.ru, .ref o.ta, .int o.ty, .int o.sp, .int o.fr, .int o.re, .int o.ca, .int o.os, .int o.od, .ref o.na], eIA E o.sa 311 f, rs] 17 [some (.ref a), some (.int (nI N))] [.int (nI (192 + 6 * N)), .ref o.sa, .int (nI N), .ref a] 0 0
    refine z_iconst (v := 1) C dX4_why_17 (by decide) ?_
    refine z_iadd (w := nI (192 + 6 * N + 1)) C dX4_why_18 (nI_add (192 + 6 * N) 1) ?_
    refine z_iald (m := (192 + 6 * N + 1)) (v := lv.li) 1 C dX4_why_19 rfl rfl (by omega) (by decide) (R0.1.2.1 1 (by decide) (by decide)) ?_
    refine z_callV (r := (RX4, TX4, 15)) (As := [.int (nI N), .int lv.li]) (rest := []) (Δ := [rs]) [0, 1] [2] 2 (m_Mbarred hl E a o f A.st R.2.2.2.2 hS N hN4 lv gs R0.1 hv hgs h8 lv.li) C dX4_why_20 rfl rfl (eIn (i := 0) rfl List.mem_cons_self) rfl rfl q1773 q1775 qs32 q67 q1776 (by decide +kernel) rfl (ePm 3 rfl (by decide +kernel)) rfl rfl ⟨Nat.le_of_ble_eq_true rfl, Nat.le_of_ble_eq_true rfl⟩ (Nat.le_trans eS0 (Nat.le_of_ble_eq_true rfl)) ⟨Nat.le_of_ble_eq_true rfl, Nat.le_of_ble_eq_true rfl⟩ (fun v_ Γ_ hp_ => ?_)
    obtain ⟨rfl, rfl⟩ := hp_
    show eZ x E _ [eO a 4 [.ref o.sa, .ref o.pa, .ref o.ha, .ref o.xa, .int o.pn, .int o.ru, .ref o.ta, .int o.ty, .int o.sp, .int o.fr, .int o.re, .int o.ca, .int o.os, .int o.od, .ref o.na], eIA E o.sa 311 f, rs] 23 [some (.ref a), some (.int (nI N))] [.int (gMBar A.st lv gs lv.li)] 0 0
    refine z_goto 28 C dX4_why_23 (by decide) ?_
    subst hQ_
    exact z_ret (Γ := [eO a 4 [.ref o.sa, .ref o.pa, .ref o.ha, .ref o.xa, .int o.pn, .int o.ru, .ref o.ta, .int o.ty, .int o.sp, .int o.fr, .int o.re, .int o.ca, .int o.os, .int o.od, .ref o.na], eIA E o.sa 311 f]) C dX4_why_28 rfl rfl (Nat.le_of_ble_eq_true rfl) (Nat.le_of_ble_eq_true rfl) ⟨by rw [gWhyQ, if_pos hif, hgL, gMBar_w]; cases gs <;> rfl, rfl⟩

set_option maxHeartbeats 4000000 in
theorem m_Mgrade {l : Launch} (hl : l.stackTraces = false) (E : eEn) (a : Nat) (o : Mo) (f : Nat → Int32) (A : Am) (hok : gOk A) (hwf : gWf A) (R : Rep f A) (ln : Int32) : eMet l E yX4_grade (ws_ yX4_grade cX4_grade 3 (some .int)) ({ frames := 4, cells := 0, slots := 0, locals := 88 }) [.ref a, .int ln] [eO a 4 [.ref o.sa, .ref o.pa, .ref o.ha, .ref o.xa, .int o.pn, .int o.ru, .ref o.ta, .int o.ty, .int o.sp, .int o.fr, .int o.re, .int o.ca, .int o.os, .int o.od, .ref o.na], eIA E o.sa 311 f] (fun w_ Γ => w_ = some (.int (gGradeQ A ln)) ∧ Γ = [eMO a o, eIA E o.sa 311 f]) := by
  refine eStart (cc := cX4_grade) (nL := 3) (L := [some (.ref a), some (.int ln), none]) hl (by decide) rfl (List.forall_mem_cons.mpr ⟨rfl, (List.forall_mem_cons.mpr ⟨rfl, (fun _ h => absurd h List.not_mem_nil)⟩)⟩) (Nat.le_of_ble_eq_true rfl) ?_
  intro x rs C
  show eZ x E (eQ x E (fun w_ Γ => w_ = some (.int (gGradeQ A ln)) ∧ Γ = [eMO a o, eIA E o.sa 311 f]) rs) [eO a 4 [.ref o.sa, .ref o.pa, .ref o.ha, .ref o.xa, .int o.pn, .int o.ru, .ref o.ta, .int o.ty, .int o.sp, .int o.fr, .int o.re, .int o.ca, .int o.os, .int o.od, .ref o.na], eIA E o.sa 311 f, rs] 0 [some (.ref a), some (.int ln), none] [] 0 0
  generalize hQ_ : eQ x E (fun w_ Γ => w_ = some (.int (gGradeQ A ln)) ∧ Γ = [eMO a o, eIA E o.sa 311 f]) rs = Q_
  refine z_iload_n C dX4_grade_0 rfl rfl ?_
  refine z_callS (As := [.int ln]) (rest := []) (Δ := [eO a 4 [.ref o.sa, .ref o.pa, .ref o.ha, .ref o.xa, .int o.pn, .int o.ru, .ref o.ta, .int o.ty, .int o.sp, .int o.fr, .int o.re, .int o.ca, .int o.os, .int o.od, .ref o.na], eIA E o.sa 311 f, rs]) [] [0, 1, 2] 1 (m_MisLane hl E ln) C dX4_grade_1 rfl rfl rfl q1721 q1722 q67 q1723 (by decide +kernel) rfl (ePm 3 rfl (by decide +kernel)) rfl rfl ⟨Nat.le_of_ble_eq_true rfl, Nat.le_of_ble_eq_true rfl⟩ (Nat.le_trans eS0 (Nat.le_of_ble_eq_true rfl)) ⟨Nat.le_of_ble_eq_true rfl, Nat.le_of_ble_eq_true rfl⟩ (fun v_ Γ_ hp_ => ?_)
  obtain ⟨rfl, rfl⟩ := hp_
  show eZ x E _ [eO a 4 [.ref o.sa, .ref o.pa, .ref o.ha, .ref o.xa, .int o.pn, .int o.ru, .ref o.ta, .int o.ty, .int o.sp, .int o.fr, .int o.re, .int o.ca, .int o.os, .int o.od, .ref o.na], eIA E o.sa 311 f, rs] 4 [some (.ref a), some (.int ln), none] [.int (eB (eBt ln 0 3))] 0 0
  refine z_if_ne_B 10 C dX4_grade_4 (by decide) (fun h1 => ?_) (fun h1 => ?_)
  · have hif := h1
    obtain ⟨N, hN, rfl⟩ := eBt_N (h1)
    have hN4 : N < 4 := Nat.lt_succ_of_le hN
    obtain ⟨⟨lv, gs⟩, hx⟩ : ∃ q_, A.ls[N]? = some q_ := ⟨_, List.getElem?_eq_getElem (by rw [hok.1]; exact hN4)⟩
    have h8 : gs.length ≤ 8 := hok.2.1 _ (List.mem_of_getElem? hx)
    have hz : rZ N gs A.cs A.bs := ⟨hN4, h8, Nat.le_of_eq hok.2.2.1, hok.2.2.2.1⟩
    have R0 : rP f f N lv gs A.cs A.bs (gTF A) A.st := rP_of R hx
    show eZ x E _ [eO a 4 [.ref o.sa, .ref o.pa, .ref o.ha, .ref o.xa, .int o.pn, .int o.ru, .ref o.ta, .int o.ty, .int o.sp, .int o.fr, .int o.re, .int o.ca, .int o.os, .int o.od, .ref o.na], eIA E o.sa 311 f, rs] 10 [some (.ref a), some (.int (nI N)), none] [] 0 0
    have hwx := hwf.1 _ (List.mem_of_getElem? hx)
    have hv : gWfL lv := hwx.1
    have hgs : ∀ g ∈ gs, gEgOk g = true := hwx.2
    have hS := hwf.2.2.1
    have hgL := gL_at hN4 hx
    refine z_aload_n C dX4_grade_10 rfl rfl ?_
    refine z_get eK4 0 0 C dX4_grade_11 rfl rfl q1671 (eSame1 rfl) (by decide) rfl ?_
    refine z_iload_n C dX4_grade_14 rfl rfl ?_
    refine z_callS (As := [.int (nI N)]) (rest := [.ref o.sa]) (Δ := [eO a 4 [.ref o.sa, .ref o.pa, .ref o.ha, .ref o.xa, .int o.pn, .int o.ru, .ref o.ta, .int o.ty, .int o.sp, .int o.fr, .int o.re, .int o.ca, .int o.os, .int o.od, .ref o.na], eIA E o.sa 311 f, rs]) [] [0, 1, 2] 1 (m_MlaneAt hl E N) C dX4_grade_15 rfl rfl rfl q1668 q1669 q67 q1670 (by decide +kernel) rfl (ePm 3 rfl (by decide +kernel)) rfl rfl ⟨Nat.le_of_ble_eq_true rfl, Nat.le_of_ble_eq_true rfl⟩ (Nat.le_trans (eSm rfl eS0) (Nat.le_of_ble_eq_true rfl)) ⟨Nat.le_of_ble_eq_true rfl, Nat.le_of_ble_eq_true rfl⟩ (fun v_ Γ_ hp_ => ?_)
    obtain ⟨rfl, rfl⟩ := hp_
    show eZ x E _ [eO a 4 [.ref o.sa, .ref o.pa, .ref o.ha, .ref o.xa, .int o.pn, .int o.ru, .ref o.ta, .int o.ty, .int o.sp, .int o.fr, .int o.re, .int o.ca, .int o.os, .int o.od, .ref o.na], eIA E o.sa 311 f, rs] 18 [some (.ref a), some (.int (nI N)), none] [.int (nI (192 + 6 * N)), .ref o.sa] 0 0
    refine z_iconst (v := 1) C dX4_grade_18 (by decide) ?_
    refine z_iadd (w := nI (192 + 6 * N + 1)) C dX4_grade_19 (nI_add (192 + 6 * N) 1) ?_
    refine z_iald (m := (192 + 6 * N + 1)) (v := lv.li) 1 C dX4_grade_20 rfl rfl (by omega) (by decide) (R0.1.2.1 1 (by decide) (by decide)) ?_
    refine z_istore_n (L2 := [some (.ref a), some (.int (nI N)), some (.int lv.li)]) C dX4_grade_21 rfl (Nat.le_of_ble_eq_true rfl) rfl ?_
    refine z_aload_n C dX4_grade_22 rfl rfl ?_
    refine z_iload_n C dX4_grade_23 rfl rfl ?_
    refine z_iload_n C dX4_grade_24 rfl rfl ?_
    refine z_callV (r := (RX4, TX4, 15)) (As := [.int (nI N), .int lv.li]) (rest := []) (Δ := [rs]) [0, 1] [2] 2 (m_Mbarred hl E a o f A.st R.2.2.2.2 hS N hN4 lv gs R0.1 hv hgs h8 lv.li) C dX4_grade_25 rfl rfl (eIn (i := 0) rfl List.mem_cons_self) rfl rfl q1773 q1775 qs32 q67 q1776 (by decide +kernel) rfl (ePm 3 rfl (by decide +kernel)) rfl rfl ⟨Nat.le_of_ble_eq_true rfl, Nat.le_of_ble_eq_true rfl⟩ (Nat.le_trans eS0 (Nat.le_of_ble_eq_true rfl)) ⟨Nat.le_of_ble_eq_true rfl, Nat.le_of_ble_eq_true rfl⟩ (fun v_ Γ_ hp_ => ?_)
    obtain ⟨rfl, rfl⟩ := hp_
    show eZ x E _ [eO a 4 [.ref o.sa, .ref o.pa, .ref o.ha, .ref o.xa, .int o.pn, .int o.ru, .ref o.ta, .int o.ty, .int o.sp, .int o.fr, .int o.re, .int o.ca, .int o.os, .int o.od, .ref o.na], eIA E o.sa 311 f, rs] 28 [some (.ref a), some (.int (nI N)), some (.int lv.li)] [.int (gMBar A.st lv gs lv.li)] 0 0
    refine z_if_le 36 C dX4_grade_28 (by decide) (fun h2 => ?_) (fun h2 => ?_)
    · rcases gs with _ | ⟨g, t⟩
      case nil => exact absurd (show (1 : Int32) ≤ 0 from h2) (by decide)
      have hB0 : gBar A.st (gStL lv) (gStE lv g) = 0 := by
        have h9 : gBar A.st (gStL lv) (gStE lv g) ≤ 0 := h2
        rcases gBar_3 A.st (gStL lv) (gStE lv g) with h | h | h
        · exact h
        · rw [h] at h9; exact absurd h9 (by decide)
        · rw [h] at h9; exact absurd h9 (by decide)
      refine z_aload_n C dX4_grade_36 rfl rfl ?_
      refine z_iload_n C dX4_grade_37 rfl rfl ?_
      refine z_iload_n C dX4_grade_38 rfl rfl ?_
      refine z_callV (r := (RX4, TX4, 15)) (As := [.int (nI N), .int lv.li]) (rest := []) (Δ := [rs]) [0, 1] [2] 2 (m_MgradeOf hl E a o f A.st R.2.2.2.2 hS N hN4 lv (g :: t) R0.1 hv g rfl (hgs g List.mem_cons_self) lv.li) C dX4_grade_39 rfl rfl (eIn (i := 0) rfl List.mem_cons_self) rfl rfl q1789 q1791 qs36 q67 q1792 (by decide +kernel) rfl (ePm 3 rfl (by decide +kernel)) rfl rfl ⟨Nat.le_of_ble_eq_true rfl, Nat.le_of_ble_eq_true rfl⟩ (Nat.le_trans eS0 (Nat.le_of_ble_eq_true rfl)) ⟨Nat.le_of_ble_eq_true rfl, Nat.le_of_ble_eq_true rfl⟩ (fun v_ Γ_ hp_ => ?_)
      obtain ⟨rfl, rfl⟩ := hp_
      show eZ x E _ [eO a 4 [.ref o.sa, .ref o.pa, .ref o.ha, .ref o.xa, .int o.pn, .int o.ru, .ref o.ta, .int o.ty, .int o.sp, .int o.fr, .int o.re, .int o.ca, .int o.os, .int o.od, .ref o.na], eIA E o.sa 311 f, rs] 42 [some (.ref a), some (.int (nI N)), some (.int lv.li)] [.int (gGr A.st (gWi lv lv.li) (gStE lv g))] 0 0
      subst hQ_
      exact z_ret (Γ := [eO a 4 [.ref o.sa, .ref o.pa, .ref o.ha, .ref o.xa, .int o.pn, .int o.ru, .ref o.ta, .int o.ty, .int o.sp, .int o.fr, .int o.re, .int o.ca, .int o.os, .int o.od, .ref o.na], eIA E o.sa 311 f]) C dX4_grade_42 rfl rfl (Nat.le_of_ble_eq_true rfl) (Nat.le_of_ble_eq_true rfl) ⟨by rw [gGradeQ, if_pos hif, hgL]; show _ = some (Value.int (if gBar A.st (gStL lv) (gStE lv g) = 0 then gGr A.st (gStL lv) (gStE lv g) else _)); rw [if_pos hB0]; rfl, rfl⟩
    · refine z_ldc C dX4_grade_31 rfl q1744 ?_
      refine z_goto 42 C dX4_grade_33 (by decide) ?_
      subst hQ_
      exact z_ret (Γ := [eO a 4 [.ref o.sa, .ref o.pa, .ref o.ha, .ref o.xa, .int o.pn, .int o.ru, .ref o.ta, .int o.ty, .int o.sp, .int o.fr, .int o.re, .int o.ca, .int o.os, .int o.od, .ref o.na], eIA E o.sa 311 f]) C dX4_grade_42 rfl rfl (Nat.le_of_ble_eq_true rfl) (Nat.le_of_ble_eq_true rfl) ⟨by rw [gGradeQ, if_pos hif, hgL]; rw [gMBar_w] at h2; cases gs with | nil => rfl | cons g t => (show _ = some (Value.int (if gBar A.st (gStL lv) (gStE lv g) = 0 then _ else _)); rw [if_neg (fun h => h2 (by show gBar A.st (gStL lv) (gStE lv g) ≤ 0; rw [h]; exact Int32.le_refl _))]), rfl⟩
  · refine z_ldc C dX4_grade_7 rfl q1727 ?_
    subst hQ_
    exact z_ret (Γ := [eO a 4 [.ref o.sa, .ref o.pa, .ref o.ha, .ref o.xa, .int o.pn, .int o.ru, .ref o.ta, .int o.ty, .int o.sp, .int o.fr, .int o.re, .int o.ca, .int o.os, .int o.od, .ref o.na], eIA E o.sa 311 f]) C dX4_grade_9 rfl rfl (Nat.le_of_ble_eq_true rfl) (Nat.le_of_ble_eq_true rfl) ⟨by rw [gGradeQ, if_neg (by rw [h1]; decide)], rfl⟩
