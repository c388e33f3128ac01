/-! ===== the model: best and least lights and turns, mean ===== -/
set_option maxRecDepth 100000
theorem gBT_0 {st : Nat → Int32} {sp : Int32} (h : (-1 : Int32) < gBits (gSeenS st (nI 1) &&& sp)) : gBT st sp 7 1 0 (-1) = gBT st sp 7 1 1 (-1) := by
  show gBT st sp 6 2 (if (-1 : Int32) < gBits (gSeenS st (nI 1) &&& sp) then nI 1 else 0) _ = gBT st sp 6 2 (if (-1 : Int32) < gBits (gSeenS st (nI 1) &&& sp) then nI 1 else 1) _
  rw [if_pos h, if_pos h]
theorem gBits_0 (k : Nat) (h : k < 256) : (-1 : Int32) < gBits (nI k) := by
  have h9 : ∀ k, k < 256 → (-1 : Int32) < gBits (nI k) := by decide +kernel
  exact h9 k h
theorem gAnd_r {st : Nat → Int32} {tu : Int32} {g : Eg} (hS : gWfS st) (ht : eBt tu 1 7 = true) (hg : gEgOk g = true) : ∃ k, k < 256 ∧ gSeenS st tu &&& g.sp = nI k ∧ g.sp &&& gSeenS st tu = nI k := by
  obtain ⟨k1, h1, e1⟩ := eBt_ex (hi := 255) (by decide) (gEgOk_ hg).2.2.1
  obtain ⟨k2, h2, e2⟩ := gSeenS_r hS ht
  rw [e1, e2, nI_and_, nI_and_]
  exact ⟨k2 &&& k1, Nat.lt_of_le_of_lt Nat.and_le_left h2, rfl, by rw [Nat.and_comm]⟩
theorem eMax_le (a b : Int32) : a ≤ eMax a b := by
  unfold eMax
  split
  · rename_i h; exact Int32.le_of_lt h
  · exact Int32.le_refl _
theorem gLeastM_le (gs : List Eg) : ∀ m, m ≤ gLeastM gs m := by
  induction gs with
  | nil => intro m; exact Int32.le_refl _
  | cons g t ih => intro m; exact Int32.le_trans (eMax_le m g.sh) (ih _)
theorem least_eq (gs : List Eg) (h : ∀ g ∈ gs, gEgOk g = true) : (if decide (gLeastM gs (-1) ≠ -1) = true then gLeastM gs (-1) else -1000004) = gLeastM gs (-1000004) := by
  cases gs with
  | nil => rfl
  | cons g t =>
    have h0 : (0 : Int32) ≤ g.sh := (eBt_0 (gEgOk_ (h g List.mem_cons_self)).2.1).1
    have e1 : gLeastM (g :: t) (-1) = gLeastM t g.sh := by
      show gLeastM t (eMax (-1) g.sh) = _
      rw [eMax, if_pos (Int32.lt_of_lt_of_le (by decide) h0)]
    have e2 : gLeastM (g :: t) (-1000004) = gLeastM t g.sh := by
      show gLeastM t (eMax (-1000004) g.sh) = _
      rw [eMax, if_pos (Int32.lt_of_lt_of_le (by decide) h0)]
    have h1 : (0 : Int32) ≤ gLeastM t g.sh := Int32.le_trans h0 (gLeastM_le t _)
    rw [e1, e2]
    have hne : gLeastM t g.sh ≠ -1 := fun h => by rw [h] at h1; exact absurd h1 (by decide)
    exact if_pos (decide_eq_true hne)
def gMPi (st : Nat → Int32) (lv : Lv) (gs : List Eg) (i : Int32) : Int32 := match gs with | [] => 0 | g :: _ => if 0 < gBar st (gWi lv i) g then 0 else gMPr (gGr st (gWi lv i) (gStE lv g))
def gMO (st : Nat → Int32) (lv : Lv) (gs : List Eg) : Nat → Nat → Int32 → Int32 → Int32
  | 0, _, best, _ => best
  | d + 1, i, best, most => gMO st lv gs d (i + 1) (if most < gMPi st lv gs (nI i) then nI i else best) (eMax most (gMPi st lv gs (nI i)))
theorem gMO_sk (st : Nat → Int32) (lv : Lv) (gs : List Eg) (best : Int32) (d : Nat) : ∀ k i, (∀ j, i ≤ j → j < i + k → gMPi st lv gs (nI j) = 0) → gMO st lv gs (k + d) i best 0 = gMO st lv gs d (i + k) best 0 := by
  intro k
  induction k with
  | zero => intro i h; rw [Nat.zero_add, Nat.add_zero]
  | succ k ih =>
    intro i h
    rw [show k + 1 + d = (k + d) + 1 by omega, gMO, h i (Nat.le_refl _) (by omega), if_neg (by decide), show eMax 0 0 = 0 from rfl, ih (i + 1) (fun j h1 h2 => h j (by omega) (by omega)), show i + 1 + k = i + (k + 1) by omega]
theorem gMO_eq (st : Nat → Int32) (lv : Lv) (gs : List Eg) (h : ∀ g ∈ gs, gEgOk g = true) : gMO st lv gs 100 0 (-1000004) 0 = (match gs with | [] => -1000004 | g :: _ => gBO st (gStL lv) (gStE lv g) (100 - nN g.sh) (nN g.sh) (-1000004) 0) := by
  cases gs with
  | nil => exact gMO_sk st lv [] (-1000004) 0 100 0 (fun j _ _ => rfl)
  | cons g t =>
    obtain ⟨s, hs, he⟩ := eBt_ex (hi := 99) (by decide) (gEgOk_ (h g List.mem_cons_self)).2.1
    have hb : ∀ j, gBar st (gWi lv (nI j)) g = if nI j < g.sh then 2 else if gMSB st lv g = true then 3 else 0 := fun j => gBar_M st (gWi lv (nI j)) g
    have h1 := gMO_sk st lv (g :: t) (-1000004) (100 - s) s 0 (fun j _ h2 => by
      show (if 0 < gBar st (gWi lv (nI j)) g then 0 else _) = 0
      rw [hb, he, if_pos (nI_lt (by omega) (by omega)), if_pos (by decide)])
    rw [show s + (100 - s) = 100 by omega, Nat.zero_add] at h1
    rw [h1]
    show _ = gBO st (gStL lv) (gStE lv g) (100 - nN g.sh) (nN g.sh) (-1000004) 0
    rw [he, nN_nI (by omega)]
    have hge : ∀ j, s ≤ j → j < 100 → ¬ nI j < g.sh := fun j h2 h3 => by rw [he]; exact Int32.not_lt.mpr (nI_le h2 (by omega))
    by_cases hk : gMSB st lv g = true
    · obtain ⟨d, hd⟩ : ∃ d, 100 - s = d + 1 := ⟨99 - s, by omega⟩
      have h2 := gMO_sk st lv (g :: t) (-1000004) 0 (100 - s) s (fun j h2 h3 => by
        show (if 0 < gBar st (gWi lv (nI j)) g then 0 else _) = 0
        rw [hb, if_neg (hge j h2 (by omega)), if_pos hk, if_pos (by decide)])
      rw [Nat.add_zero] at h2
      rw [h2, hd, gBO, if_neg (by
        show ¬ gBar st (gWi lv (nI s)) g = 0
        rw [hb, if_neg (hge s (Nat.le_refl _) (by omega)), if_pos hk]; decide)]
      rfl
    · have h3 : ∀ d i best most, s ≤ i → i + d ≤ 100 → gMO st lv (g :: t) d i best most = gBO st (gStL lv) (gStE lv g) d i best most := by
        intro d
        induction d with
        | zero => intro i best most _ _; rfl
        | succ d ih =>
          intro i best most h4 h5
          have hb0 : gBar st (gWi lv (nI i)) g = 0 := by rw [hb, if_neg (hge i h4 (by omega)), if_neg hk]
          have hp : gMPi st lv (g :: t) (nI i) = gPrice (gGr st (gWi (gStL lv) (nI i)) (gStE lv g)) := by
            show (if 0 < gBar st (gWi lv (nI i)) g then 0 else gMPr (gGr st (gWi lv (nI i)) (gStE lv g))) = _
            rw [hb0, if_neg (by decide)]
            obtain ⟨K, hK, hG⟩ := gGr_N st (gWi (gStL lv) (nI i)) (gStE lv g)
            rw [show gGr st (gWi lv (nI i)) (gStE lv g) = gGr st (gWi (gStL lv) (nI i)) (gStE lv g) from rfl, hG]
            exact gMPr_eq K hK
          rw [gMO, gBO, if_pos (show gBar st (gWi (gStL lv) (nI i)) (gStE lv g) = 0 from hb0), hp]
          exact ih (i + 1) _ _ (by omega) (by omega)
      exact h3 (100 - s) s (-1000004) 0 (Nat.le_refl _) (by omega)

set_option maxHeartbeats 4000000 in
theorem m_MbestTurn {l : Launch} (hl : l.stackTraces = false) (E : eEn) (a : Nat) (o : Mo) (f : Nat → Int32) (A : Am) (hok : gOk A) (hwf : gWf A) (R : Rep f A) (ln : Int32) : eMet l E yX4_bestTurn (ws_ yX4_bestTurn cX4_bestTurn 6 (some .int)) ({ frames := 2, cells := 0, slots := 0, locals := 42 }) [.ref a, .int ln] [eO a 4 [.ref o.sa, .ref o.pa, .ref o.ha, .ref o.xa, .int o.pn, .int o.ru, .ref o.ta, .int o.ty, .int o.sp, .int o.fr, .int o.re, .int o.ca, .int o.os, .int o.od, .ref o.na], eIA E o.sa 311 f] (fun w_ Γ => w_ = some (.int (gBestTurnQ A ln)) ∧ Γ = [eMO a o, eIA E o.sa 311 f]) := by
  refine eStart (cc := cX4_bestTurn) (nL := 6) (L := [some (.ref a), some (.int ln), none, none, none, none]) hl (by decide) rfl (List.forall_mem_cons.mpr ⟨rfl, (List.forall_mem_cons.mpr ⟨rfl, (fun _ h => absurd h List.not_mem_nil)⟩)⟩) (Nat.le_of_ble_eq_true rfl) ?_
  intro x rs C
  show eZ x E (eQ x E (fun w_ Γ => w_ = some (.int (gBestTurnQ A ln)) ∧ Γ = [eMO a o, eIA E o.sa 311 f]) rs) [eO a 4 [.ref o.sa, .ref o.pa, .ref o.ha, .ref o.xa, .int o.pn, .int o.ru, .ref o.ta, .int o.ty, .int o.sp, .int o.fr, .int o.re, .int o.ca, .int o.os, .int o.od, .ref o.na], eIA E o.sa 311 f, rs] 0 [some (.ref a), some (.int ln), none, none, none, none] [] 0 0
  generalize hQ_ : eQ x E (fun w_ Γ => w_ = some (.int (gBestTurnQ A ln)) ∧ Γ = [eMO a o, eIA E o.sa 311 f]) rs = Q_
  refine z_iload_n C dX4_bestTurn_0 rfl rfl ?_
  refine z_callS (As := [.int ln]) (rest := []) (Δ := [eO a 4 [.ref o.sa, .ref o.pa, .ref o.ha, .ref o.xa, .int o.pn, .int o.ru, .ref o.ta, .int o.ty, .int o.sp, .int o.fr, .int o.re, .int o.ca, .int o.os, .int o.od, .ref o.na], eIA E o.sa 311 f, rs]) [] [0, 1, 2] 1 (m_MisLane hl E ln) C dX4_bestTurn_1 rfl rfl rfl q1721 q1722 q67 q1723 (by decide +kernel) rfl (ePm 3 rfl (by decide +kernel)) rfl rfl ⟨Nat.le_of_ble_eq_true rfl, Nat.le_of_ble_eq_true rfl⟩ (Nat.le_trans eS0 (Nat.le_of_ble_eq_true rfl)) ⟨Nat.le_of_ble_eq_true rfl, Nat.le_of_ble_eq_true rfl⟩ (fun v_ Γ_ hp_ => ?_)
  obtain ⟨rfl, rfl⟩ := hp_
  show eZ x E _ [eO a 4 [.ref o.sa, .ref o.pa, .ref o.ha, .ref o.xa, .int o.pn, .int o.ru, .ref o.ta, .int o.ty, .int o.sp, .int o.fr, .int o.re, .int o.ca, .int o.os, .int o.od, .ref o.na], eIA E o.sa 311 f, rs] 4 [some (.ref a), some (.int ln), none, none, none, none] [.int (eB (eBt ln 0 3))] 0 0
  refine z_if_ne_B 10 C dX4_bestTurn_4 (by decide) (fun h1 => ?_) (fun h1 => ?_)
  · have hif := h1
    obtain ⟨N, hN, rfl⟩ := eBt_N (h1)
    have hN4 : N < 4 := Nat.lt_succ_of_le hN
    obtain ⟨⟨lv, gs⟩, hx⟩ : ∃ q_, A.ls[N]? = some q_ := ⟨_, List.getElem?_eq_getElem (by rw [hok.1]; exact hN4)⟩
    have h8 : gs.length ≤ 8 := hok.2.1 _ (List.mem_of_getElem? hx)
    have hz : rZ N gs A.cs A.bs := ⟨hN4, h8, Nat.le_of_eq hok.2.2.1, hok.2.2.2.1⟩
    have R0 : rP f f N lv gs A.cs A.bs (gTF A) A.st := rP_of R hx
    show eZ x E _ [eO a 4 [.ref o.sa, .ref o.pa, .ref o.ha, .ref o.xa, .int o.pn, .int o.ru, .ref o.ta, .int o.ty, .int o.sp, .int o.fr, .int o.re, .int o.ca, .int o.os, .int o.od, .ref o.na], eIA E o.sa 311 f, rs] 10 [some (.ref a), some (.int (nI N)), none, none, none, none] [] 0 0
    have hwx := hwf.1 _ (List.mem_of_getElem? hx)
    have hv : gWfL lv := hwx.1
    have hgs : ∀ g ∈ gs, gEgOk g = true := hwx.2
    have hS := hwf.2.2.1
    have hgL := gL_at hN4 hx
    refine z_aload_n C dX4_bestTurn_10 rfl rfl ?_
    refine z_iload_n C dX4_bestTurn_11 rfl rfl ?_
    refine z_callV (r := (RX4, TX4, 15)) (As := [.int (nI N)]) (rest := []) (Δ := [rs]) [0, 1] [2] 1 (m_Mmany hl E a o f N hN4 lv gs R0.1) C dX4_bestTurn_12 rfl rfl (eIn (i := 0) rfl List.mem_cons_self) rfl rfl q1728 q1730 qs27 q67 q1731 (by decide +kernel) rfl (ePm 3 rfl (by decide +kernel)) rfl rfl ⟨Nat.le_of_ble_eq_true rfl, Nat.le_of_ble_eq_true rfl⟩ (Nat.le_trans eS0 (Nat.le_of_ble_eq_true rfl)) ⟨Nat.le_of_ble_eq_true rfl, Nat.le_of_ble_eq_true rfl⟩ (fun v_ Γ_ hp_ => ?_)
    obtain ⟨rfl, rfl⟩ := hp_
    show eZ x E _ [eO a 4 [.ref o.sa, .ref o.pa, .ref o.ha, .ref o.xa, .int o.pn, .int o.ru, .ref o.ta, .int o.ty, .int o.sp, .int o.fr, .int o.re, .int o.ca, .int o.os, .int o.od, .ref o.na], eIA E o.sa 311 f, rs] 15 [some (.ref a), some (.int (nI N)), none, none, none, none] [.int (nI gs.length)] 0 0
    refine z_if_ne 21 C dX4_bestTurn_15 (by decide) (fun h2 => ?_) (fun h2 => ?_)
    · rcases gs with _ | ⟨g, t⟩
      case nil => exact absurd rfl h2
      have hgo := hgs g List.mem_cons_self
      obtain ⟨k0, hk0, e0, -⟩ := gAnd_r (tu := nI 1) hS (by decide) hgo
      have hres : gBestTurnQ A (nI N) = gBT A.st g.sp 7 1 1 (-1) := by rw [gBestTurnQ, if_pos hif, hgL]; exact gBT_0 (by rw [e0]; exact gBits_0 k0 hk0)
      refine z_iconst (v := 1) C dX4_bestTurn_21 (by decide) ?_
      refine z_istore_n (L2 := [some (.ref a), some (.int (nI N)), some (.int 1), none, none, none]) C dX4_bestTurn_22 rfl (Nat.le_of_ble_eq_true rfl) rfl ?_
      refine z_iconst (v := (-1)) C dX4_bestTurn_23 (by decide) ?_
      refine z_istore_n (L2 := [some (.ref a), some (.int (nI N)), some (.int 1), some (.int (-1)), none, none]) C dX4_bestTurn_24 rfl (Nat.le_of_ble_eq_true rfl) rfl ?_
      refine z_iconst (v := 1) C dX4_bestTurn_25 (by decide) ?_
      refine z_istore (L2 := [some (.ref a), some (.int (nI N)), some (.int 1), some (.int (-1)), some (.int 1), none]) C dX4_bestTurn_26 (Nat.le_of_ble_eq_true rfl) rfl ?_
      have K : ∀ (d i : Nat) (best most : Int32), i + d = 8 → 1 ≤ i → gBT A.st g.sp d i best most = gBestTurnQ A (nI N) → eZ x E Q_ [eO a 4 [.ref o.sa, .ref o.pa, .ref o.ha, .ref o.xa, .int o.pn, .int o.ru, .ref o.ta, .int o.ty, .int o.sp, .int o.fr, .int o.re, .int o.ca, .int o.os, .int o.od, .ref o.na], eIA E o.sa 311 f, rs] 28 [some (.ref a), some (.int (nI N)), some (.int best), some (.int most), some (.int (nI i)), none] [] 0 0 := by
        intro d
        induction d with
        | zero =>
            intro i best most hi h1i hR
            obtain rfl : i = 8 := by omega
            refine z_iload C dX4_bestTurn_28 rfl ?_
            refine z_bipush (v := 8) C dX4_bestTurn_30 (by decide) ?_
            refine z_icmp_ge 91 C dX4_bestTurn_32 (by decide) (fun h_ => ?_) (fun h_ => absurd h_ (absurd (by decide) h_))
            refine z_iload_n C dX4_bestTurn_91 rfl rfl ?_
            subst hQ_
            exact z_ret (Γ := [eO a 4 [.ref o.sa, .ref o.pa, .ref o.ha, .ref o.xa, .int o.pn, .int o.ru, .ref o.ta, .int o.ty, .int o.sp, .int o.fr, .int o.re, .int o.ca, .int o.os, .int o.od, .ref o.na], eIA E o.sa 311 f]) C dX4_bestTurn_92 rfl rfl (Nat.le_of_ble_eq_true rfl) (Nat.le_of_ble_eq_true rfl) ⟨by rw [← hR]; rfl, rfl⟩
        | succ d ih =>
            intro i best most hi h1i hR
            refine z_iload C dX4_bestTurn_28 rfl ?_
            refine z_bipush (v := 8) C dX4_bestTurn_30 (by decide) ?_
            refine z_icmp_ge 91 C dX4_bestTurn_32 (by decide) (fun h_ => absurd h_ (nI_ge (a := i) (b := 8) (by omega) (by decide))) (fun h_ => ?_)
            obtain ⟨k, hk, e1, e2⟩ := gAnd_r (tu := nI i) hS (decide_eq_true ⟨nI_le (a := 1) (b := i) h1i (by omega), nI_le (a := i) (b := 7) (by omega) (by decide)⟩) hgo
            refine z_aload_n C dX4_bestTurn_35 rfl rfl ?_
            refine z_get eK4 0 0 C dX4_bestTurn_36 rfl rfl q1671 (eSame1 rfl) (by decide) rfl ?_
            refine z_iload_n C dX4_bestTurn_39 rfl rfl ?_
            refine z_iconst (v := 0) C dX4_bestTurn_40 (by decide) ?_
            refine z_callS (As := [.int (nI N), .int 0]) (rest := [.ref o.sa]) (Δ := [eO a 4 [.ref o.sa, .ref o.pa, .ref o.ha, .ref o.xa, .int o.pn, .int o.ru, .ref o.ta, .int o.ty, .int o.sp, .int o.fr, .int o.re, .int o.ca, .int o.os, .int o.od, .ref o.na], eIA E o.sa 311 f, rs]) [] [0, 1, 2] 2 (m_MeggAt hl E N 0) C dX4_bestTurn_41 rfl rfl rfl q1737 q1738 q67 q1739 (by decide +kernel) rfl (ePm 3 rfl (by decide +kernel)) rfl rfl ⟨Nat.le_of_ble_eq_true rfl, Nat.le_of_ble_eq_true rfl⟩ (Nat.le_trans (eSm rfl eS0) (Nat.le_of_ble_eq_true rfl)) ⟨Nat.le_of_ble_eq_true rfl, Nat.le_of_ble_eq_true rfl⟩ (fun v_ Γ_ hp_ => ?_)
            obtain ⟨rfl, rfl⟩ := hp_
            show eZ x E _ [eO a 4 [.ref o.sa, .ref o.pa, .ref o.ha, .ref o.xa, .int o.pn, .int o.ru, .ref o.ta, .int o.ty, .int o.sp, .int o.fr, .int o.re, .int o.ca, .int o.os, .int o.od, .ref o.na], eIA E o.sa 311 f, rs] 44 [some (.ref a), some (.int (nI N)), some (.int best), some (.int most), some (.int (nI i)), none] [.int (nI (48 * N + 6 * 0)), .ref o.sa] 0 0
            refine z_iconst (v := 2) C dX4_bestTurn_44 (by decide) ?_
            refine z_iadd (w := nI (48 * N + 6 * 0 + 2)) C dX4_bestTurn_45 (nI_add (48 * N + 6 * 0) 2) ?_
            refine z_iald (m := (48 * N + 6 * 0 + 2)) (v := g.sp) 1 C dX4_bestTurn_46 rfl rfl (by omega) (by decide) (R0.1.2.2 0 g rfl 2 (by decide)) ?_
            refine z_aload_n C dX4_bestTurn_47 rfl rfl ?_
            refine z_iload C dX4_bestTurn_48 rfl ?_
            refine z_callV (r := (RX4, TX4, 15)) (As := [.int (nI i)]) (rest := [.int g.sp]) (Δ := [rs]) [0, 1] [2] 1 (m_MseenBy hl E a o f A.st R.2.2.2.2 hS (nI i)) C dX4_bestTurn_50 rfl rfl (eIn (i := 0) rfl List.mem_cons_self) rfl rfl q1785 q1787 qs35 q67 q1788 (by decide +kernel) rfl (ePm 3 rfl (by decide +kernel)) rfl rfl ⟨Nat.le_of_ble_eq_true rfl, Nat.le_of_ble_eq_true rfl⟩ (Nat.le_trans (eSm rfl eS0) (Nat.le_of_ble_eq_true rfl)) ⟨Nat.le_of_ble_eq_true rfl, Nat.le_of_ble_eq_true rfl⟩ (fun v_ Γ_ hp_ => ?_)
            obtain ⟨rfl, rfl⟩ := hp_
            show eZ x E _ [eO a 4 [.ref o.sa, .ref o.pa, .ref o.ha, .ref o.xa, .int o.pn, .int o.ru, .ref o.ta, .int o.ty, .int o.sp, .int o.fr, .int o.re, .int o.ca, .int o.os, .int o.od, .ref o.na], eIA E o.sa 311 f, rs] 53 [some (.ref a), some (.int (nI N)), some (.int best), some (.int most), some (.int (nI i)), none] [.int (gSeenS A.st (nI i)), .int g.sp] 0 0
            refine z_iand (w := nI k) C dX4_bestTurn_53 e2 ?_
            refine z_callS (As := [.int (nI k)]) (rest := []) (Δ := [eO a 4 [.ref o.sa, .ref o.pa, .ref o.ha, .ref o.xa, .int o.pn, .int o.ru, .ref o.ta, .int o.ty, .int o.sp, .int o.fr, .int o.re, .int o.ca, .int o.os, .int o.od, .ref o.na], eIA E o.sa 311 f, rs]) [] [0, 1, 2] 1 (m_Mbits hl E k hk) C dX4_bestTurn_54 rfl rfl rfl q1797 q1798 q67 q1799 (by decide +kernel) rfl (ePm 3 rfl (by decide +kernel)) rfl rfl ⟨Nat.le_of_ble_eq_true rfl, Nat.le_of_ble_eq_true rfl⟩ (Nat.le_trans eS0 (Nat.le_of_ble_eq_true rfl)) ⟨Nat.le_of_ble_eq_true rfl, Nat.le_of_ble_eq_true rfl⟩ (fun v_ Γ_ hp_ => ?_)
            obtain ⟨rfl, rfl⟩ := hp_
            show eZ x E _ [eO a 4 [.ref o.sa, .ref o.pa, .ref o.ha, .ref o.xa, .int o.pn, .int o.ru, .ref o.ta, .int o.ty, .int o.sp, .int o.fr, .int o.re, .int o.ca, .int o.os, .int o.od, .ref o.na], eIA E o.sa 311 f, rs] 57 [some (.ref a), some (.int (nI N)), some (.int best), some (.int most), some (.int (nI i)), none] [.int (gBits (nI k))] 0 0
            refine z_is (w := gBits (gSeenS A.st (nI i) &&& g.sp)) (by rw [e1]) ?_
            refine z_istore (L2 := [some (.ref a), some (.int (nI N)), some (.int best), some (.int most), some (.int (nI i)), some (.int (gBits (gSeenS A.st (nI i) &&& g.sp)))]) C dX4_bestTurn_57 (Nat.le_of_ble_eq_true rfl) rfl ?_
            refine z_iload C dX4_bestTurn_59 rfl ?_
            refine z_iload_n C dX4_bestTurn_61 rfl rfl ?_
            suffices J_ : eZ x E Q_ [eO a 4 [.ref o.sa, .ref o.pa, .ref o.ha, .ref o.xa, .int o.pn, .int o.ru, .ref o.ta, .int o.ty, .int o.sp, .int o.fr, .int o.re, .int o.ca, .int o.os, .int o.od, .ref o.na], eIA E o.sa 311 f, rs] 71 [some (.ref a), some (.int (nI N)), some (.int best), some (.int most), some (.int (nI i)), some (.int (gBits (gSeenS A.st (nI i) &&& g.sp)))] [.int (if most < gBits (gSeenS A.st (nI i) &&& g.sp) then nI i else best)] 0 0 by
              refine z_icmp_le 70 C dX4_bestTurn_62 (by decide) (fun h_ => ?_) (fun h_ => ?_)
              · refine z_iload_n C dX4_bestTurn_70 rfl rfl ?_
                refine z_is (w := if most < gBits (gSeenS A.st (nI i) &&& g.sp) then nI i else best) (if_neg (Int32.not_lt.mpr h_)).symm ?_
                exact J_
              · refine z_iload C dX4_bestTurn_65 rfl ?_
                refine z_goto 71 C dX4_bestTurn_67 (by decide) ?_
                refine z_is (w := if most < gBits (gSeenS A.st (nI i) &&& g.sp) then nI i else best) (if_pos (Int32.not_le.mp h_)).symm ?_
                exact J_
            refine z_istore_n (L2 := [some (.ref a), some (.int (nI N)), some (.int (if most < gBits (gSeenS A.st (nI i) &&& g.sp) then nI i else best)), some (.int most), some (.int (nI i)), some (.int (gBits (gSeenS A.st (nI i) &&& g.sp)))]) C dX4_bestTurn_71 rfl (Nat.le_of_ble_eq_true rfl) rfl ?_
            refine z_iload C dX4_bestTurn_72 rfl ?_
            refine z_iload_n C dX4_bestTurn_74 rfl rfl ?_
            suffices J_ : eZ x E Q_ [eO a 4 [.ref o.sa, .ref o.pa, .ref o.ha, .ref o.xa, .int o.pn, .int o.ru, .ref o.ta, .int o.ty, .int o.sp, .int o.fr, .int o.re, .int o.ca, .int o.os, .int o.od, .ref o.na], eIA E o.sa 311 f, rs] 84 [some (.ref a), some (.int (nI N)), some (.int (if most < gBits (gSeenS A.st (nI i) &&& g.sp) then nI i else best)), some (.int most), some (.int (nI i)), some (.int (gBits (gSeenS A.st (nI i) &&& g.sp)))] [.int (eMax most (gBits (gSeenS A.st (nI i) &&& g.sp)))] 0 0 by
              refine z_icmp_le 83 C dX4_bestTurn_75 (by decide) (fun h_ => ?_) (fun h_ => ?_)
              · refine z_iload_n C dX4_bestTurn_83 rfl rfl ?_
                refine z_is (w := eMax most (gBits (gSeenS A.st (nI i) &&& g.sp))) (if_neg (Int32.not_lt.mpr h_)).symm ?_
                exact J_
              · refine z_iload C dX4_bestTurn_78 rfl ?_
                refine z_goto 84 C dX4_bestTurn_80 (by decide) ?_
                refine z_is (w := eMax most (gBits (gSeenS A.st (nI i) &&& g.sp))) (if_pos (Int32.not_le.mp h_)).symm ?_
                exact J_
            refine z_istore_n (L2 := [some (.ref a), some (.int (nI N)), some (.int (if most < gBits (gSeenS A.st (nI i) &&& g.sp) then nI i else best)), some (.int (eMax most (gBits (gSeenS A.st (nI i) &&& g.sp)))), some (.int (nI i)), some (.int (gBits (gSeenS A.st (nI i) &&& g.sp)))]) C dX4_bestTurn_84 rfl (Nat.le_of_ble_eq_true rfl) rfl ?_
            refine z_iinc (v := nI (i + 1)) (L2 := [some (.ref a), some (.int (nI N)), some (.int (if most < gBits (gSeenS A.st (nI i) &&& g.sp) then nI i else best)), some (.int (eMax most (gBits (gSeenS A.st (nI i) &&& g.sp)))), some (.int (nI (i + 1))), some (.int (gBits (gSeenS A.st (nI i) &&& g.sp)))]) C dX4_bestTurn_85 rfl (nI_1 i) rfl ?_
            refine z_goto 28 C dX4_bestTurn_88 (by decide) ?_
            refine z_forget (L' := [some (.ref a), some (.int (nI N)), some (.int (if most < gBits (gSeenS A.st (nI i) &&& g.sp) then nI i else best)), some (.int (eMax most (gBits (gSeenS A.st (nI i) &&& g.sp)))), some (.int (nI (i + 1))), none]) ⟨Or.inr rfl, Or.inr rfl, Or.inr rfl, Or.inr rfl, Or.inr rfl, Or.inl rfl, trivial⟩ ?_
            exact ih (i + 1) _ _ (by omega) (by omega) (by rw [← hR, gBT])
      exact K 7 1 1 (-1) rfl (Nat.le_refl _) hres.symm
    · have hn0 : gs = [] := by cases gs with | nil => rfl | cons g t => exact absurd h2 (nI_ne0 (by rw [List.length_cons]; omega) (by omega))
      refine z_ldc C dX4_bestTurn_18 rfl q1833 ?_
      subst hQ_
      exact z_ret (Γ := [eO a 4 [.ref o.sa, .ref o.pa, .ref o.ha, .ref o.xa, .int o.pn, .int o.ru, .ref o.ta, .int o.ty, .int o.sp, .int o.fr, .int o.re, .int o.ca, .int o.os, .int o.od, .ref o.na], eIA E o.sa 311 f]) C dX4_bestTurn_20 rfl rfl (Nat.le_of_ble_eq_true rfl) (Nat.le_of_ble_eq_true rfl) ⟨by rw [gBestTurnQ, if_pos hif, hgL, hn0], rfl⟩
  · refine z_ldc C dX4_bestTurn_7 rfl q1727 ?_
    subst hQ_
    exact z_ret (Γ := [eO a 4 [.ref o.sa, .ref o.pa, .ref o.ha, .ref o.xa, .int o.pn, .int o.ru, .ref o.ta, .int o.ty, .int o.sp, .int o.fr, .int o.re, .int o.ca, .int o.os, .int o.od, .ref o.na], eIA E o.sa 311 f]) C dX4_bestTurn_9 rfl rfl (Nat.le_of_ble_eq_true rfl) (Nat.le_of_ble_eq_true rfl) ⟨by rw [gBestTurnQ, if_neg (by rw [h1]; decide)], rfl⟩

set_option maxHeartbeats 4000000 in
theorem m_MleastLight {l : Launch} (hl : l.stackTraces = false) (E : eEn) (a : Nat) (o : Mo) (f : Nat → Int32) (A : Am) (hok : gOk A) (hwf : gWf A) (R : Rep f A) (ln : Int32) : eMet l E yX4_leastLight (ws_ yX4_leastLight cX4_leastLight 5 (some .int)) ({ frames := 2, cells := 0, slots := 0, locals := 42 }) [.ref a, .int ln] [eO a 4 [.ref o.sa, .ref o.pa, .ref o.ha, .ref o.xa, .int o.pn, .int o.ru, .ref o.ta, .int o.ty, .int o.sp, .int o.fr, .int o.re, .int o.ca, .int o.os, .int o.od, .ref o.na], eIA E o.sa 311 f] (fun w_ Γ => w_ = some (.int (gLeastQ A ln)) ∧ Γ = [eMO a o, eIA E o.sa 311 f]) := by
  refine eStart (cc := cX4_leastLight) (nL := 5) (L := [some (.ref a), some (.int ln), none, none, none]) hl (by decide) rfl (List.forall_mem_cons.mpr ⟨rfl, (List.forall_mem_cons.mpr ⟨rfl, (fun _ h => absurd h List.not_mem_nil)⟩)⟩) (Nat.le_of_ble_eq_true rfl) ?_
  intro x rs C
  show eZ x E (eQ x E (fun w_ Γ => w_ = some (.int (gLeastQ A ln)) ∧ Γ = [eMO a o, eIA E o.sa 311 f]) rs) [eO a 4 [.ref o.sa, .ref o.pa, .ref o.ha, .ref o.xa, .int o.pn, .int o.ru, .ref o.ta, .int o.ty, .int o.sp, .int o.fr, .int o.re, .int o.ca, .int o.os, .int o.od, .ref o.na], eIA E o.sa 311 f, rs] 0 [some (.ref a), some (.int ln), none, none, none] [] 0 0
  generalize hQ_ : eQ x E (fun w_ Γ => w_ = some (.int (gLeastQ A ln)) ∧ Γ = [eMO a o, eIA E o.sa 311 f]) rs = Q_
  refine z_iload_n C dX4_leastLight_0 rfl rfl ?_
  refine z_callS (As := [.int ln]) (rest := []) (Δ := [eO a 4 [.ref o.sa, .ref o.pa, .ref o.ha, .ref o.xa, .int o.pn, .int o.ru, .ref o.ta, .int o.ty, .int o.sp, .int o.fr, .int o.re, .int o.ca, .int o.os, .int o.od, .ref o.na], eIA E o.sa 311 f, rs]) [] [0, 1, 2] 1 (m_MisLane hl E ln) C dX4_leastLight_1 rfl rfl rfl q1721 q1722 q67 q1723 (by decide +kernel) rfl (ePm 3 rfl (by decide +kernel)) rfl rfl ⟨Nat.le_of_ble_eq_true rfl, Nat.le_of_ble_eq_true rfl⟩ (Nat.le_trans eS0 (Nat.le_of_ble_eq_true rfl)) ⟨Nat.le_of_ble_eq_true rfl, Nat.le_of_ble_eq_true rfl⟩ (fun v_ Γ_ hp_ => ?_)
  obtain ⟨rfl, rfl⟩ := hp_
  show eZ x E _ [eO a 4 [.ref o.sa, .ref o.pa, .ref o.ha, .ref o.xa, .int o.pn, .int o.ru, .ref o.ta, .int o.ty, .int o.sp, .int o.fr, .int o.re, .int o.ca, .int o.os, .int o.od, .ref o.na], eIA E o.sa 311 f, rs] 4 [some (.ref a), some (.int ln), none, none, none] [.int (eB (eBt ln 0 3))] 0 0
  refine z_if_ne_B 10 C dX4_leastLight_4 (by decide) (fun h1 => ?_) (fun h1 => ?_)
  · have hif := h1
    obtain ⟨N, hN, rfl⟩ := eBt_N (h1)
    have hN4 : N < 4 := Nat.lt_succ_of_le hN
    obtain ⟨⟨lv, gs⟩, hx⟩ : ∃ q_, A.ls[N]? = some q_ := ⟨_, List.getElem?_eq_getElem (by rw [hok.1]; exact hN4)⟩
    have h8 : gs.length ≤ 8 := hok.2.1 _ (List.mem_of_getElem? hx)
    have hz : rZ N gs A.cs A.bs := ⟨hN4, h8, Nat.le_of_eq hok.2.2.1, hok.2.2.2.1⟩
    have R0 : rP f f N lv gs A.cs A.bs (gTF A) A.st := rP_of R hx
    show eZ x E _ [eO a 4 [.ref o.sa, .ref o.pa, .ref o.ha, .ref o.xa, .int o.pn, .int o.ru, .ref o.ta, .int o.ty, .int o.sp, .int o.fr, .int o.re, .int o.ca, .int o.os, .int o.od, .ref o.na], eIA E o.sa 311 f, rs] 10 [some (.ref a), some (.int (nI N)), none, none, none] [] 0 0
    have hwx := hwf.1 _ (List.mem_of_getElem? hx)
    have hv : gWfL lv := hwx.1
    have hgs : ∀ g ∈ gs, gEgOk g = true := hwx.2
    have hS := hwf.2.2.1
    have hgL := gL_at hN4 hx
    have hres : gLeastQ A (nI N) = gLeastM gs (-1000004) := by rw [gLeastQ, if_pos hif, hgL]; exact least_eq gs hgs
    refine z_ldc C dX4_leastLight_10 rfl q1833 ?_
    refine z_istore_n (L2 := [some (.ref a), some (.int (nI N)), some (.int (-1000004)), none, none]) C dX4_leastLight_12 rfl (Nat.le_of_ble_eq_true rfl) rfl ?_
    refine z_iconst (v := 0) C dX4_leastLight_13 (by decide) ?_
    refine z_istore_n (L2 := [some (.ref a), some (.int (nI N)), some (.int (-1000004)), some (.int 0), none]) C dX4_leastLight_14 rfl (Nat.le_of_ble_eq_true rfl) rfl ?_
    have K : ∀ (vs us : List Eg) (c : Int32), gs = us ++ vs → gLeastM vs c = gLeastQ A (nI N) → eZ x E Q_ [eO a 4 [.ref o.sa, .ref o.pa, .ref o.ha, .ref o.xa, .int o.pn, .int o.ru, .ref o.ta, .int o.ty, .int o.sp, .int o.fr, .int o.re, .int o.ca, .int o.os, .int o.od, .ref o.na], eIA E o.sa 311 f, rs] 15 [some (.ref a), some (.int (nI N)), some (.int c), some (.int (nI us.length)), none] [] 0 0 := by
      intro vs
      induction vs with
      | nil =>
          intro us c hgu hR
          have hlen : gs.length = us.length + 0 := by rw [hgu, List.length_append]; rfl
          refine z_iload_n C dX4_leastLight_15 rfl rfl ?_
          refine z_aload_n C dX4_leastLight_16 rfl rfl ?_
          refine z_iload_n C dX4_leastLight_17 rfl rfl ?_
          refine z_callV (r := (RX4, TX4, 15)) (As := [.int (nI N)]) (rest := [.int (nI us.length)]) (Δ := [rs]) [0, 1] [2] 1 (m_Mmany hl E a o f N hN4 lv gs R0.1) C dX4_leastLight_18 rfl rfl (eIn (i := 0) rfl List.mem_cons_self) rfl rfl q1728 q1730 qs27 q67 q1731 (by decide +kernel) rfl (ePm 3 rfl (by decide +kernel)) rfl rfl ⟨Nat.le_of_ble_eq_true rfl, Nat.le_of_ble_eq_true rfl⟩ (Nat.le_trans (eSm rfl eS0) (Nat.le_of_ble_eq_true rfl)) ⟨Nat.le_of_ble_eq_true rfl, Nat.le_of_ble_eq_true rfl⟩ (fun v_ Γ_ hp_ => ?_)
          obtain ⟨rfl, rfl⟩ := hp_
          show eZ x E _ [eO a 4 [.ref o.sa, .ref o.pa, .ref o.ha, .ref o.xa, .int o.pn, .int o.ru, .ref o.ta, .int o.ty, .int o.sp, .int o.fr, .int o.re, .int o.ca, .int o.os, .int o.od, .ref o.na], eIA E o.sa 311 f, rs] 21 [some (.ref a), some (.int (nI N)), some (.int c), some (.int (nI us.length)), none] [.int (nI gs.length), .int (nI us.length)] 0 0
          refine z_icmp_ge 57 C dX4_leastLight_21 (by decide) (fun h_ => ?_) (fun h_ => absurd h_ (absurd (by rw [hlen]; exact Int32.le_refl _) h_))
          refine z_iload_n C dX4_leastLight_57 rfl rfl ?_
          subst hQ_
          exact z_ret (Γ := [eO a 4 [.ref o.sa, .ref o.pa, .ref o.ha, .ref o.xa, .int o.pn, .int o.ru, .ref o.ta, .int o.ty, .int o.sp, .int o.fr, .int o.re, .int o.ca, .int o.os, .int o.od, .ref o.na], eIA E o.sa 311 f]) C dX4_leastLight_58 rfl rfl (Nat.le_of_ble_eq_true rfl) (Nat.le_of_ble_eq_true rfl) ⟨by rw [← hR]; rfl, rfl⟩
      | cons g vs ih =>
          intro us c hgu hR
          have hlen : gs.length = us.length + (vs.length + 1) := by rw [hgu, List.length_append]; rfl
          refine z_iload_n C dX4_leastLight_15 rfl rfl ?_
          refine z_aload_n C dX4_leastLight_16 rfl rfl ?_
          refine z_iload_n C dX4_leastLight_17 rfl rfl ?_
          refine z_callV (r := (RX4, TX4, 15)) (As := [.int (nI N)]) (rest := [.int (nI us.length)]) (Δ := [rs]) [0, 1] [2] 1 (m_Mmany hl E a o f N hN4 lv gs R0.1) C dX4_leastLight_18 rfl rfl (eIn (i := 0) rfl List.mem_cons_self) rfl rfl q1728 q1730 qs27 q67 q1731 (by decide +kernel) rfl (ePm 3 rfl (by decide +kernel)) rfl rfl ⟨Nat.le_of_ble_eq_true rfl, Nat.le_of_ble_eq_true rfl⟩ (Nat.le_trans (eSm rfl eS0) (Nat.le_of_ble_eq_true rfl)) ⟨Nat.le_of_ble_eq_true rfl, Nat.le_of_ble_eq_true rfl⟩ (fun v_ Γ_ hp_ => ?_)
          obtain ⟨rfl, rfl⟩ := hp_
          show eZ x E _ [eO a 4 [.ref o.sa, .ref o.pa, .ref o.ha, .ref o.xa, .int o.pn, .int o.ru, .ref o.ta, .int o.ty, .int o.sp, .int o.fr, .int o.re, .int o.ca, .int o.os, .int o.od, .ref o.na], eIA E o.sa 311 f, rs] 21 [some (.ref a), some (.int (nI N)), some (.int c), some (.int (nI us.length)), none] [.int (nI gs.length), .int (nI us.length)] 0 0
          refine z_icmp_ge 57 C dX4_leastLight_21 (by decide) (fun h_ => absurd h_ (nI_ge (a := us.length) (b := gs.length) (by omega) (by omega))) (fun h_ => ?_)
          have hg : gs[us.length]? = some g := by rw [hgu, List.getElem?_append_right (Nat.le_refl _), Nat.sub_self]; rfl
          refine z_aload_n C dX4_leastLight_24 rfl rfl ?_
          refine z_get eK4 0 0 C dX4_leastLight_25 rfl rfl q1671 (eSame1 rfl) (by decide) rfl ?_
          refine z_iload_n C dX4_leastLight_28 rfl rfl ?_
          refine z_iload_n C dX4_leastLight_29 rfl rfl ?_
          refine z_callS (As := [.int (nI N), .int (nI us.length)]) (rest := [.ref o.sa]) (Δ := [eO a 4 [.ref o.sa, .ref o.pa, .ref o.ha, .ref o.xa, .int o.pn, .int o.ru, .ref o.ta, .int o.ty, .int o.sp, .int o.fr, .int o.re, .int o.ca, .int o.os, .int o.od, .ref o.na], eIA E o.sa 311 f, rs]) [] [0, 1, 2] 2 (m_MeggAt hl E N us.length) C dX4_leastLight_30 rfl rfl rfl q1737 q1738 q67 q1739 (by decide +kernel) rfl (ePm 3 rfl (by decide +kernel)) rfl rfl ⟨Nat.le_of_ble_eq_true rfl, Nat.le_of_ble_eq_true rfl⟩ (Nat.le_trans (eSm rfl eS0) (Nat.le_of_ble_eq_true rfl)) ⟨Nat.le_of_ble_eq_true rfl, Nat.le_of_ble_eq_true rfl⟩ (fun v_ Γ_ hp_ => ?_)
          obtain ⟨rfl, rfl⟩ := hp_
          show eZ x E _ [eO a 4 [.ref o.sa, .ref o.pa, .ref o.ha, .ref o.xa, .int o.pn, .int o.ru, .ref o.ta, .int o.ty, .int o.sp, .int o.fr, .int o.re, .int o.ca, .int o.os, .int o.od, .ref o.na], eIA E o.sa 311 f, rs] 33 [some (.ref a), some (.int (nI N)), some (.int c), some (.int (nI us.length)), none] [.int (nI (48 * N + 6 * us.length)), .ref o.sa] 0 0
          refine z_iconst (v := 1) C dX4_leastLight_33 (by decide) ?_
          refine z_iadd (w := nI (48 * N + 6 * us.length + 1)) C dX4_leastLight_34 (nI_add (48 * N + 6 * us.length) 1) ?_
          refine z_iald (m := (48 * N + 6 * us.length + 1)) (v := g.sh) 1 C dX4_leastLight_35 rfl rfl (by omega) (by decide) (R0.1.2.2 us.length g hg 1 (by decide)) ?_
          refine z_istore (L2 := [some (.ref a), some (.int (nI N)), some (.int c), some (.int (nI us.length)), some (.int g.sh)]) C dX4_leastLight_36 (Nat.le_of_ble_eq_true rfl) rfl ?_
          refine z_iload C dX4_leastLight_38 rfl ?_
          refine z_iload_n C dX4_leastLight_40 rfl rfl ?_
          suffices J_ : eZ x E Q_ [eO a 4 [.ref o.sa, .ref o.pa, .ref o.ha, .ref o.xa, .int o.pn, .int o.ru, .ref o.ta, .int o.ty, .int o.sp, .int o.fr, .int o.re, .int o.ca, .int o.os, .int o.od, .ref o.na], eIA E o.sa 311 f, rs] 50 [some (.ref a), some (.int (nI N)), some (.int c), some (.int (nI us.length)), some (.int g.sh)] [.int (eMax c g.sh)] 0 0 by
            refine z_icmp_le 49 C dX4_leastLight_41 (by decide) (fun h_ => ?_) (fun h_ => ?_)
            · refine z_iload_n C dX4_leastLight_49 rfl rfl ?_
              refine z_is (w := eMax c g.sh) (if_neg (Int32.not_lt.mpr h_)).symm ?_
              exact J_
            · refine z_iload C dX4_leastLight_44 rfl ?_
              refine z_goto 50 C dX4_leastLight_46 (by decide) ?_
              refine z_is (w := eMax c g.sh) (if_pos (Int32.not_le.mp h_)).symm ?_
              exact J_
          refine z_istore_n (L2 := [some (.ref a), some (.int (nI N)), some (.int (eMax c g.sh)), some (.int (nI us.length)), some (.int g.sh)]) C dX4_leastLight_50 rfl (Nat.le_of_ble_eq_true rfl) rfl ?_
          refine z_iinc (v := nI (us.length + 1)) (L2 := [some (.ref a), some (.int (nI N)), some (.int (eMax c g.sh)), some (.int (nI (us.length + 1))), some (.int g.sh)]) C dX4_leastLight_51 rfl (nI_1 us.length) rfl ?_
          refine z_goto 15 C dX4_leastLight_54 (by decide) ?_
          refine z_forget (L' := [some (.ref a), some (.int (nI N)), some (.int (eMax c g.sh)), some (.int (nI (us.length + 1))), none]) ⟨Or.inr rfl, Or.inr rfl, Or.inr rfl, Or.inr rfl, Or.inl rfl, trivial⟩ ?_
          have h9 := ih (us ++ [g]) (eMax c g.sh) (by rw [hgu, List.append_assoc]; rfl) (by rw [← hR]; rfl)
          rw [List.length_append] at h9
          exact h9
    exact K gs [] (-1000004) rfl hres.symm
  · refine z_ldc C dX4_leastLight_7 rfl q1727 ?_
    subst hQ_
    exact z_ret (Γ := [eO a 4 [.ref o.sa, .ref o.pa, .ref o.ha, .ref o.xa, .int o.pn, .int o.ru, .ref o.ta, .int o.ty, .int o.sp, .int o.fr, .int o.re, .int o.ca, .int o.os, .int o.od, .ref o.na], eIA E o.sa 311 f]) C dX4_leastLight_9 rfl rfl (Nat.le_of_ble_eq_true rfl) (Nat.le_of_ble_eq_true rfl) ⟨by rw [gLeastQ, if_neg (by rw [h1]; decide)], rfl⟩

set_option maxHeartbeats 4000000 in
theorem m_MbestLight {l : Launch} (hl : l.stackTraces = false) (E : eEn) (a : Nat) (o : Mo) (f : Nat → Int32) (A : Am) (hok : gOk A) (hwf : gWf A) (R : Rep f A) (ln : Int32) : eMet l E yX4_bestLight (ws_ yX4_bestLight cX4_bestLight 6 (some .int)) ({ frames := 4, cells := 0, slots := 0, locals := 88 }) [.ref a, .int ln] [eO a 4 [.ref o.sa, .ref o.pa, .ref o.ha, .ref o.xa, .int o.pn, .int o.ru, .ref o.ta, .int o.ty, .int o.sp, .int o.fr, .int o.re, .int o.ca, .int o.os, .int o.od, .ref o.na], eIA E o.sa 311 f] (fun w_ Γ => w_ = some (.int (gBestLightQ A ln)) ∧ Γ = [eMO a o, eIA E o.sa 311 f]) := by
  refine eStart (cc := cX4_bestLight) (nL := 6) (L := [some (.ref a), some (.int ln), none, none, none, none]) hl (by decide) rfl (List.forall_mem_cons.mpr ⟨rfl, (List.forall_mem_cons.mpr ⟨rfl, (fun _ h => absurd h List.not_mem_nil)⟩)⟩) (Nat.le_of_ble_eq_true rfl) ?_
  intro x rs C
  show eZ x E (eQ x E (fun w_ Γ => w_ = some (.int (gBestLightQ A ln)) ∧ Γ = [eMO a o, eIA E o.sa 311 f]) rs) [eO a 4 [.ref o.sa, .ref o.pa, .ref o.ha, .ref o.xa, .int o.pn, .int o.ru, .ref o.ta, .int o.ty, .int o.sp, .int o.fr, .int o.re, .int o.ca, .int o.os, .int o.od, .ref o.na], eIA E o.sa 311 f, rs] 0 [some (.ref a), some (.int ln), none, none, none, none] [] 0 0
  generalize hQ_ : eQ x E (fun w_ Γ => w_ = some (.int (gBestLightQ A ln)) ∧ Γ = [eMO a o, eIA E o.sa 311 f]) rs = Q_
  refine z_iload_n C dX4_bestLight_0 rfl rfl ?_
  refine z_callS (As := [.int ln]) (rest := []) (Δ := [eO a 4 [.ref o.sa, .ref o.pa, .ref o.ha, .ref o.xa, .int o.pn, .int o.ru, .ref o.ta, .int o.ty, .int o.sp, .int o.fr, .int o.re, .int o.ca, .int o.os, .int o.od, .ref o.na], eIA E o.sa 311 f, rs]) [] [0, 1, 2] 1 (m_MisLane hl E ln) C dX4_bestLight_1 rfl rfl rfl q1721 q1722 q67 q1723 (by decide +kernel) rfl (ePm 3 rfl (by decide +kernel)) rfl rfl ⟨Nat.le_of_ble_eq_true rfl, Nat.le_of_ble_eq_true rfl⟩ (Nat.le_trans eS0 (Nat.le_of_ble_eq_true rfl)) ⟨Nat.le_of_ble_eq_true rfl, Nat.le_of_ble_eq_true rfl⟩ (fun v_ Γ_ hp_ => ?_)
  obtain ⟨rfl, rfl⟩ := hp_
  show eZ x E _ [eO a 4 [.ref o.sa, .ref o.pa, .ref o.ha, .ref o.xa, .int o.pn, .int o.ru, .ref o.ta, .int o.ty, .int o.sp, .int o.fr, .int o.re, .int o.ca, .int o.os, .int o.od, .ref o.na], eIA E o.sa 311 f, rs] 4 [some (.ref a), some (.int ln), none, none, none, none] [.int (eB (eBt ln 0 3))] 0 0
  refine z_if_ne_B 10 C dX4_bestLight_4 (by decide) (fun h1 => ?_) (fun h1 => ?_)
  · have hif := h1
    obtain ⟨N, hN, rfl⟩ := eBt_N (h1)
    have hN4 : N < 4 := Nat.lt_succ_of_le hN
    obtain ⟨⟨lv, gs⟩, hx⟩ : ∃ q_, A.ls[N]? = some q_ := ⟨_, List.getElem?_eq_getElem (by rw [hok.1]; exact hN4)⟩
    have h8 : gs.length ≤ 8 := hok.2.1 _ (List.mem_of_getElem? hx)
    have hz : rZ N gs A.cs A.bs := ⟨hN4, h8, Nat.le_of_eq hok.2.2.1, hok.2.2.2.1⟩
    have R0 : rP f f N lv gs A.cs A.bs (gTF A) A.st := rP_of R hx
    show eZ x E _ [eO a 4 [.ref o.sa, .ref o.pa, .ref o.ha, .ref o.xa, .int o.pn, .int o.ru, .ref o.ta, .int o.ty, .int o.sp, .int o.fr, .int o.re, .int o.ca, .int o.os, .int o.od, .ref o.na], eIA E o.sa 311 f, rs] 10 [some (.ref a), some (.int (nI N)), none, none, none, none] [] 0 0
    have hwx := hwf.1 _ (List.mem_of_getElem? hx)
    have hv : gWfL lv := hwx.1
    have hgs : ∀ g ∈ gs, gEgOk g = true := hwx.2
    have hS := hwf.2.2.1
    have hgL := gL_at hN4 hx
    have hres : gBestLightQ A (nI N) = gMO A.st lv gs 100 0 (-1000004) 0 := by rw [gBestLightQ, if_pos hif, hgL, gMO_eq A.st lv gs hgs]; cases gs <;> rfl
    refine z_ldc C dX4_bestLight_10 rfl q1833 ?_
    refine z_istore_n (L2 := [some (.ref a), some (.int (nI N)), some (.int (-1000004)), none, none, none]) C dX4_bestLight_12 rfl (Nat.le_of_ble_eq_true rfl) rfl ?_
    refine z_iconst (v := 0) C dX4_bestLight_13 (by decide) ?_
    refine z_istore_n (L2 := [some (.ref a), some (.int (nI N)), some (.int (-1000004)), some (.int 0), none, none]) C dX4_bestLight_14 rfl (Nat.le_of_ble_eq_true rfl) rfl ?_
    refine z_iconst (v := 0) C dX4_bestLight_15 (by decide) ?_
    refine z_istore (L2 := [some (.ref a), some (.int (nI N)), some (.int (-1000004)), some (.int 0), some (.int 0), none]) C dX4_bestLight_16 (Nat.le_of_ble_eq_true rfl) rfl ?_
    have K : ∀ (d i : Nat) (best most : Int32), i + d = 100 → gMO A.st lv gs d i best most = gBestLightQ A (nI N) → eZ x E Q_ [eO a 4 [.ref o.sa, .ref o.pa, .ref o.ha, .ref o.xa, .int o.pn, .int o.ru, .ref o.ta, .int o.ty, .int o.sp, .int o.fr, .int o.re, .int o.ca, .int o.os, .int o.od, .ref o.na], eIA E o.sa 311 f, rs] 18 [some (.ref a), some (.int (nI N)), some (.int best), some (.int most), some (.int (nI i)), none] [] 0 0 := by
      intro d
      induction d with
      | zero =>
          intro i best most hi hR
          obtain rfl : i = 100 := by omega
          refine z_iload C dX4_bestLight_18 rfl ?_
          refine z_bipush (v := 100) C dX4_bestLight_20 (by decide) ?_
          refine z_icmp_ge 83 C dX4_bestLight_22 (by decide) (fun h_ => ?_) (fun h_ => absurd h_ (absurd (by decide) h_))
          refine z_iload_n C dX4_bestLight_83 rfl rfl ?_
          subst hQ_
          exact z_ret (Γ := [eO a 4 [.ref o.sa, .ref o.pa, .ref o.ha, .ref o.xa, .int o.pn, .int o.ru, .ref o.ta, .int o.ty, .int o.sp, .int o.fr, .int o.re, .int o.ca, .int o.os, .int o.od, .ref o.na], eIA E o.sa 311 f]) C dX4_bestLight_84 rfl rfl (Nat.le_of_ble_eq_true rfl) (Nat.le_of_ble_eq_true rfl) ⟨by rw [← hR]; rfl, rfl⟩
      | succ d ih =>
          intro i best most hi hR
          refine z_iload C dX4_bestLight_18 rfl ?_
          refine z_bipush (v := 100) C dX4_bestLight_20 (by decide) ?_
          refine z_icmp_ge 83 C dX4_bestLight_22 (by decide) (fun h_ => absurd h_ (nI_ge (a := i) (b := 100) (by omega) (by decide))) (fun h_ => ?_)
          refine z_aload_n C dX4_bestLight_25 rfl rfl ?_
          refine z_iload_n C dX4_bestLight_26 rfl rfl ?_
          refine z_iload C dX4_bestLight_27 rfl ?_
          refine z_callV (r := (RX4, TX4, 15)) (As := [.int (nI N), .int (nI i)]) (rest := []) (Δ := [rs]) [0, 1] [2] 2 (m_Mbarred hl E a o f A.st R.2.2.2.2 hS N hN4 lv gs R0.1 hv hgs h8 (nI i)) C dX4_bestLight_29 rfl rfl (eIn (i := 0) rfl List.mem_cons_self) rfl rfl q1773 q1775 qs32 q67 q1776 (by decide +kernel) rfl (ePm 3 rfl (by decide +kernel)) rfl rfl ⟨Nat.le_of_ble_eq_true rfl, Nat.le_of_ble_eq_true rfl⟩ (Nat.le_trans eS0 (Nat.le_of_ble_eq_true rfl)) ⟨Nat.le_of_ble_eq_true rfl, Nat.le_of_ble_eq_true rfl⟩ (fun v_ Γ_ hp_ => ?_)
          obtain ⟨rfl, rfl⟩ := hp_
          show eZ x E _ [eO a 4 [.ref o.sa, .ref o.pa, .ref o.ha, .ref o.xa, .int o.pn, .int o.ru, .ref o.ta, .int o.ty, .int o.sp, .int o.fr, .int o.re, .int o.ca, .int o.os, .int o.od, .ref o.na], eIA E o.sa 311 f, rs] 32 [some (.ref a), some (.int (nI N)), some (.int best), some (.int most), some (.int (nI i)), none] [.int (gMBar A.st lv gs (nI i))] 0 0
          suffices J_ : eZ x E Q_ [eO a 4 [.ref o.sa, .ref o.pa, .ref o.ha, .ref o.xa, .int o.pn, .int o.ru, .ref o.ta, .int o.ty, .int o.sp, .int o.fr, .int o.re, .int o.ca, .int o.os, .int o.od, .ref o.na], eIA E o.sa 311 f, rs] 49 [some (.ref a), some (.int (nI N)), some (.int best), some (.int most), some (.int (nI i)), none] [.int (gMPi A.st lv gs (nI i))] 0 0 by
            refine z_if_le 39 C dX4_bestLight_32 (by decide) (fun h_ => ?_) (fun h_ => ?_)
            · rcases gs with _ | ⟨g, t⟩
              case nil => exact absurd (show (1 : Int32) ≤ 0 from h_) (by decide)
              refine z_aload_n C dX4_bestLight_39 rfl rfl ?_
              refine z_iload_n C dX4_bestLight_40 rfl rfl ?_
              refine z_iload C dX4_bestLight_41 rfl ?_
              refine z_callV (r := (RX4, TX4, 15)) (As := [.int (nI N), .int (nI i)]) (rest := []) (Δ := [rs]) [0, 1] [2] 2 (m_MgradeOf hl E a o f A.st R.2.2.2.2 hS N hN4 lv (g :: t) R0.1 hv g rfl (hgs g List.mem_cons_self) (nI i)) C dX4_bestLight_43 rfl rfl (eIn (i := 0) rfl List.mem_cons_self) rfl rfl q1789 q1791 qs36 q67 q1792 (by decide +kernel) rfl (ePm 3 rfl (by decide +kernel)) rfl rfl ⟨Nat.le_of_ble_eq_true rfl, Nat.le_of_ble_eq_true rfl⟩ (Nat.le_trans eS0 (Nat.le_of_ble_eq_true rfl)) ⟨Nat.le_of_ble_eq_true rfl, Nat.le_of_ble_eq_true rfl⟩ (fun v_ Γ_ hp_ => ?_)
              obtain ⟨rfl, rfl⟩ := hp_
              show eZ x E _ [eO a 4 [.ref o.sa, .ref o.pa, .ref o.ha, .ref o.xa, .int o.pn, .int o.ru, .ref o.ta, .int o.ty, .int o.sp, .int o.fr, .int o.re, .int o.ca, .int o.os, .int o.od, .ref o.na], eIA E o.sa 311 f, rs] 46 [some (.ref a), some (.int (nI N)), some (.int best), some (.int most), some (.int (nI i)), none] [.int (gGr A.st (gWi lv (nI i)) (gStE lv g))] 0 0
              refine z_callS (As := [.int (gGr A.st (gWi lv (nI i)) (gStE lv g))]) (rest := []) (Δ := [eO a 4 [.ref o.sa, .ref o.pa, .ref o.ha, .ref o.xa, .int o.pn, .int o.ru, .ref o.ta, .int o.ty, .int o.sp, .int o.fr, .int o.re, .int o.ca, .int o.os, .int o.od, .ref o.na], eIA E o.sa 311 f, rs]) [] [0, 1, 2] 1 (m_MpriceOf hl E (gGr A.st (gWi lv (nI i)) (gStE lv g))) C dX4_bestLight_46 rfl rfl rfl q1815 q1816 q67 q1817 (by decide +kernel) rfl (ePm 3 rfl (by decide +kernel)) rfl rfl ⟨Nat.le_of_ble_eq_true rfl, Nat.le_of_ble_eq_true rfl⟩ (Nat.le_trans eS0 (Nat.le_of_ble_eq_true rfl)) ⟨Nat.le_of_ble_eq_true rfl, Nat.le_of_ble_eq_true rfl⟩ (fun v_ Γ_ hp_ => ?_)
              obtain ⟨rfl, rfl⟩ := hp_
              show eZ x E _ [eO a 4 [.ref o.sa, .ref o.pa, .ref o.ha, .ref o.xa, .int o.pn, .int o.ru, .ref o.ta, .int o.ty, .int o.sp, .int o.fr, .int o.re, .int o.ca, .int o.os, .int o.od, .ref o.na], eIA E o.sa 311 f, rs] 49 [some (.ref a), some (.int (nI N)), some (.int best), some (.int most), some (.int (nI i)), none] [.int (gMPr (gGr A.st (gWi lv (nI i)) (gStE lv g)))] 0 0
              refine z_is (w := gMPi A.st lv (g :: t) (nI i)) (if_neg (Int32.not_lt.mpr h_)).symm ?_
              exact J_
            · refine z_iconst (v := 0) C dX4_bestLight_35 (by decide) ?_
              refine z_goto 49 C dX4_bestLight_36 (by decide) ?_
              refine z_is (w := gMPi A.st lv gs (nI i)) (by cases gs with | nil => rfl | cons g t => exact (if_pos (Int32.not_le.mp h_)).symm) ?_
              exact J_
          refine z_istore (L2 := [some (.ref a), some (.int (nI N)), some (.int best), some (.int most), some (.int (nI i)), some (.int (gMPi A.st lv gs (nI i)))]) C dX4_bestLight_49 (Nat.le_of_ble_eq_true rfl) rfl ?_
          refine z_iload C dX4_bestLight_51 rfl ?_
          refine z_iload_n C dX4_bestLight_53 rfl rfl ?_
          suffices J_ : eZ x E Q_ [eO a 4 [.ref o.sa, .ref o.pa, .ref o.ha, .ref o.xa, .int o.pn, .int o.ru, .ref o.ta, .int o.ty, .int o.sp, .int o.fr, .int o.re, .int o.ca, .int o.os, .int o.od, .ref o.na], eIA E o.sa 311 f, rs] 63 [some (.ref a), some (.int (nI N)), some (.int best), some (.int most), some (.int (nI i)), some (.int (gMPi A.st lv gs (nI i)))] [.int (if most < gMPi A.st lv gs (nI i) then nI i else best)] 0 0 by
            refine z_icmp_le 62 C dX4_bestLight_54 (by decide) (fun h_ => ?_) (fun h_ => ?_)
            · refine z_iload_n C dX4_bestLight_62 rfl rfl ?_
              refine z_is (w := if most < gMPi A.st lv gs (nI i) then nI i else best) (if_neg (Int32.not_lt.mpr h_)).symm ?_
              exact J_
            · refine z_iload C dX4_bestLight_57 rfl ?_
              refine z_goto 63 C dX4_bestLight_59 (by decide) ?_
              refine z_is (w := if most < gMPi A.st lv gs (nI i) then nI i else best) (if_pos (Int32.not_le.mp h_)).symm ?_
              exact J_
          refine z_istore_n (L2 := [some (.ref a), some (.int (nI N)), some (.int (if most < gMPi A.st lv gs (nI i) then nI i else best)), some (.int most), some (.int (nI i)), some (.int (gMPi A.st lv gs (nI i)))]) C dX4_bestLight_63 rfl (Nat.le_of_ble_eq_true rfl) rfl ?_
          refine z_iload C dX4_bestLight_64 rfl ?_
          refine z_iload_n C dX4_bestLight_66 rfl rfl ?_
          suffices J_ : eZ x E Q_ [eO a 4 [.ref o.sa, .ref o.pa, .ref o.ha, .ref o.xa, .int o.pn, .int o.ru, .ref o.ta, .int o.ty, .int o.sp, .int o.fr, .int o.re, .int o.ca, .int o.os, .int o.od, .ref o.na], eIA E o.sa 311 f, rs] 76 [some (.ref a), some (.int (nI N)), some (.int (if most < gMPi A.st lv gs (nI i) then nI i else best)), some (.int most), some (.int (nI i)), some (.int (gMPi A.st lv gs (nI i)))] [.int (eMax most (gMPi A.st lv gs (nI i)))] 0 0 by
            refine z_icmp_le 75 C dX4_bestLight_67 (by decide) (fun h_ => ?_) (fun h_ => ?_)
            · refine z_iload_n C dX4_bestLight_75 rfl rfl ?_
              refine z_is (w := eMax most (gMPi A.st lv gs (nI i))) (if_neg (Int32.not_lt.mpr h_)).symm ?_
              exact J_
            · refine z_iload C dX4_bestLight_70 rfl ?_
              refine z_goto 76 C dX4_bestLight_72 (by decide) ?_
              refine z_is (w := eMax most (gMPi A.st lv gs (nI i))) (if_pos (Int32.not_le.mp h_)).symm ?_
              exact J_
          refine z_istore_n (L2 := [some (.ref a), some (.int (nI N)), some (.int (if most < gMPi A.st lv gs (nI i) then nI i else best)), some (.int (eMax most (gMPi A.st lv gs (nI i)))), some (.int (nI i)), some (.int (gMPi A.st lv gs (nI i)))]) C dX4_bestLight_76 rfl (Nat.le_of_ble_eq_true rfl) rfl ?_
          refine z_iinc (v := nI (i + 1)) (L2 := [some (.ref a), some (.int (nI N)), some (.int (if most < gMPi A.st lv gs (nI i) then nI i else best)), some (.int (eMax most (gMPi A.st lv gs (nI i)))), some (.int (nI (i + 1))), some (.int (gMPi A.st lv gs (nI i)))]) C dX4_bestLight_77 rfl (nI_1 i) rfl ?_
          refine z_goto 18 C dX4_bestLight_80 (by decide) ?_
          refine z_forget (L' := [some (.ref a), some (.int (nI N)), some (.int (if most < gMPi A.st lv gs (nI i) then nI i else best)), some (.int (eMax most (gMPi A.st lv gs (nI i)))), some (.int (nI (i + 1))), none]) ⟨Or.inr rfl, Or.inr rfl, Or.inr rfl, Or.inr rfl, Or.inr rfl, Or.inl rfl, trivial⟩ ?_
          exact ih (i + 1) _ _ (by omega) (by rw [← hR, gMO])
    exact K 100 0 (-1000004) 0 rfl hres.symm
  · refine z_ldc C dX4_bestLight_7 rfl q1727 ?_
    subst hQ_
    exact z_ret (Γ := [eO a 4 [.ref o.sa, .ref o.pa, .ref o.ha, .ref o.xa, .int o.pn, .int o.ru, .ref o.ta, .int o.ty, .int o.sp, .int o.fr, .int o.re, .int o.ca, .int o.os, .int o.od, .ref o.na], eIA E o.sa 311 f]) C dX4_bestLight_9 rfl rfl (Nat.le_of_ble_eq_true rfl) (Nat.le_of_ble_eq_true rfl) ⟨by rw [gBestLightQ, if_neg (by rw [h1]; decide)], rfl⟩

set_option maxHeartbeats 4000000 in
theorem m_Mmean {l : Launch} (hl : l.stackTraces = false) (E : eEn) (a : Nat) (o : Mo) (f : Nat → Int32) (A : Am) (hok : gOk A) (hwf : gWf A) (R : Rep f A)  : eMet l E yX4_mean (ws_ yX4_mean cX4_mean 3 (some .int)) ({ frames := 2, cells := 0, slots := 0, locals := 50 }) [.ref a] [eO a 4 [.ref o.sa, .ref o.pa, .ref o.ha, .ref o.xa, .int o.pn, .int o.ru, .ref o.ta, .int o.ty, .int o.sp, .int o.fr, .int o.re, .int o.ca, .int o.os, .int o.od, .ref o.na], eIA E o.sa 311 f] (fun w_ Γ => w_ = some (.int (gMeanQ A)) ∧ Γ = [eMO a o, eIA E o.sa 311 f]) := by
  refine eStart (cc := cX4_mean) (nL := 3) (L := [some (.ref a), none, none]) hl (by decide) rfl (List.forall_mem_cons.mpr ⟨rfl, (fun _ h => absurd h List.not_mem_nil)⟩) (Nat.le_of_ble_eq_true rfl) ?_
  intro x rs C
  show eZ x E (eQ x E (fun w_ Γ => w_ = some (.int (gMeanQ A)) ∧ Γ = [eMO a o, eIA E o.sa 311 f]) rs) [eO a 4 [.ref o.sa, .ref o.pa, .ref o.ha, .ref o.xa, .int o.pn, .int o.ru, .ref o.ta, .int o.ty, .int o.sp, .int o.fr, .int o.re, .int o.ca, .int o.os, .int o.od, .ref o.na], eIA E o.sa 311 f, rs] 0 [some (.ref a), none, none] [] 0 0
  generalize hQ_ : eQ x E (fun w_ Γ => w_ = some (.int (gMeanQ A)) ∧ Γ = [eMO a o, eIA E o.sa 311 f]) rs = Q_
  refine z_aload_n C dX4_mean_0 rfl rfl ?_
  refine z_get eK4 0 0 C dX4_mean_1 rfl rfl q1671 (eSame1 rfl) (by decide) rfl ?_
  refine z_sipush (v := 306) C dX4_mean_4 (by decide) ?_
  refine z_iald (m := 306) (v := A.u.wt) 1 C dX4_mean_7 rfl rfl (by omega) (by decide) (R.2.2.2.1 10 (by decide)) ?_
  refine z_i2f C dX4_mean_8 ?_
  refine z_fstore_n (L2 := [some (.ref a), some (.float (FP.i2f A.u.wt)), none]) C dX4_mean_9 rfl (Nat.le_of_ble_eq_true rfl) rfl ?_
  refine z_aload_n C dX4_mean_10 rfl rfl ?_
  refine z_get eK4 0 0 C dX4_mean_11 rfl rfl q1671 (eSame1 rfl) (by decide) rfl ?_
  refine z_sipush (v := 298) C dX4_mean_14 (by decide) ?_
  refine z_iald (m := 298) (v := gOfC A 3) 1 C dX4_mean_17 rfl rfl (by omega) (by decide) (R.2.2.2.1 2 (by decide)) ?_
  refine z_i2f C dX4_mean_18 ?_
  refine z_fstore_n (L2 := [some (.ref a), some (.float (FP.i2f A.u.wt)), some (.float (FP.i2f (gOfC A 3)))]) C dX4_mean_19 rfl (Nat.le_of_ble_eq_true rfl) rfl ?_
  refine z_aload_n C dX4_mean_20 rfl rfl ?_
  refine z_get eK4 0 0 C dX4_mean_21 rfl rfl q1671 (eSame1 rfl) (by decide) rfl ?_
  refine z_sipush (v := 298) C dX4_mean_24 (by decide) ?_
  refine z_iald (m := 298) (v := gOfC A 3) 1 C dX4_mean_27 rfl rfl (by omega) (by decide) (R.2.2.2.1 2 (by decide)) ?_
  refine z_if_ne 36 C dX4_mean_28 (by decide) (fun h1 => ?_) (fun h1 => ?_)
  · refine z_fload_n C dX4_mean_36 rfl rfl ?_
    refine z_fload_n C dX4_mean_37 rfl rfl ?_
    refine z_fdiv C dX4_mean_38 (gBitsF_n A.u.wt (gOfC A 3) h1) ?_
    show eZ x E _ [eO a 4 [.ref o.sa, .ref o.pa, .ref o.ha, .ref o.xa, .int o.pn, .int o.ru, .ref o.ta, .int o.ty, .int o.sp, .int o.fr, .int o.re, .int o.ca, .int o.os, .int o.od, .ref o.na], eIA E o.sa 311 f, rs] 39 [some (.ref a), some (.float (FP.i2f A.u.wt)), some (.float (FP.i2f (gOfC A 3)))] [.float (gBitsF A.u.wt (gOfC A 3))] 0 0
    refine z_callS (As := [.float (gBitsF A.u.wt (gOfC A 3))]) (rest := []) (Δ := [eO a 4 [.ref o.sa, .ref o.pa, .ref o.ha, .ref o.xa, .int o.pn, .int o.ru, .ref o.ta, .int o.ty, .int o.sp, .int o.fr, .int o.re, .int o.ca, .int o.os, .int o.od, .ref o.na], eIA E o.sa 311 f, rs]) [] [0, 1, 2] 1 (m_f2ib hl E (gBitsF A.u.wt (gOfC A 3)) (gBitsF_eq _ _ h1)) C dX4_mean_39 rfl rfl rfl q1873 q1437 q90 q1438 (by decide +kernel) rfl (ePm 3 rfl (by decide +kernel)) rfl rfl ⟨Nat.le_of_ble_eq_true rfl, Nat.le_of_ble_eq_true rfl⟩ (Nat.le_trans eS0 (Nat.le_of_ble_eq_true rfl)) ⟨Nat.le_of_ble_eq_true rfl, Nat.le_of_ble_eq_true rfl⟩ (fun v_ Γ_ hp_ => ?_)
    obtain ⟨rfl, rfl⟩ := hp_
    show eZ x E _ [eO a 4 [.ref o.sa, .ref o.pa, .ref o.ha, .ref o.xa, .int o.pn, .int o.ru, .ref o.ta, .int o.ty, .int o.sp, .int o.fr, .int o.re, .int o.ca, .int o.os, .int o.od, .ref o.na], eIA E o.sa 311 f, rs] 42 [some (.ref a), some (.float (FP.i2f A.u.wt)), some (.float (FP.i2f (gOfC A 3)))] [.int ((gBitsF A.u.wt (gOfC A 3)).toInt32)] 0 0
    subst hQ_
    exact z_ret (Γ := [eO a 4 [.ref o.sa, .ref o.pa, .ref o.ha, .ref o.xa, .int o.pn, .int o.ru, .ref o.ta, .int o.ty, .int o.sp, .int o.fr, .int o.re, .int o.ca, .int o.os, .int o.od, .ref o.na], eIA E o.sa 311 f]) C dX4_mean_42 rfl rfl (Nat.le_of_ble_eq_true rfl) (Nat.le_of_ble_eq_true rfl) ⟨by rw [gMeanQ, if_neg h1], rfl⟩
  · refine z_ldc C dX4_mean_31 rfl q1833 ?_
    refine z_goto 42 C dX4_mean_33 (by decide) ?_
    subst hQ_
    exact z_ret (Γ := [eO a 4 [.ref o.sa, .ref o.pa, .ref o.ha, .ref o.xa, .int o.pn, .int o.ru, .ref o.ta, .int o.ty, .int o.sp, .int o.fr, .int o.re, .int o.ca, .int o.os, .int o.od, .ref o.na], eIA E o.sa 311 f]) C dX4_mean_42 rfl rfl (Nat.le_of_ble_eq_true rfl) (Nat.le_of_ble_eq_true rfl) ⟨by rw [gMeanQ, if_pos h1], rfl⟩

set_option maxHeartbeats 4000000 in
theorem m_MinQueues {l : Launch} (hl : l.stackTraces = false) (E : eEn) (a : Nat) (o : Mo) (f : Nat → Int32) (A : Am) (hok : gOk A) (hwf : gWf A) (R : Rep f A)  : eMet l E yX4_inQueues (ws_ yX4_inQueues cX4_inQueues 3 (some .int)) ({ frames := 2, cells := 0, slots := 0, locals := 41 }) [.ref a] [eO a 4 [.ref o.sa, .ref o.pa, .ref o.ha, .ref o.xa, .int o.pn, .int o.ru, .ref o.ta, .int o.ty, .int o.sp, .int o.fr, .int o.re, .int o.ca, .int o.os, .int o.od, .ref o.na], eIA E o.sa 311 f] (fun w_ Γ => w_ = some (.int (gInQ A)) ∧ Γ = [eMO a o, eIA E o.sa 311 f]) := by
  refine eStart (cc := cX4_inQueues) (nL := 3) (L := [some (.ref a), none, none]) hl (by decide) rfl (List.forall_mem_cons.mpr ⟨rfl, (fun _ h => absurd h List.not_mem_nil)⟩) (Nat.le_of_ble_eq_true rfl) ?_
  intro x rs C
  show eZ x E (eQ x E (fun w_ Γ => w_ = some (.int (gInQ A)) ∧ Γ = [eMO a o, eIA E o.sa 311 f]) rs) [eO a 4 [.ref o.sa, .ref o.pa, .ref o.ha, .ref o.xa, .int o.pn, .int o.ru, .ref o.ta, .int o.ty, .int o.sp, .int o.fr, .int o.re, .int o.ca, .int o.os, .int o.od, .ref o.na], eIA E o.sa 311 f, rs] 0 [some (.ref a), none, none] [] 0 0
  generalize hQ_ : eQ x E (fun w_ Γ => w_ = some (.int (gInQ A)) ∧ Γ = [eMO a o, eIA E o.sa 311 f]) rs = Q_
  obtain ⟨ls, cs, bs, st, u⟩ := A
  obtain ⟨x0, x1, x2, x3, rfl⟩ : ∃ x0 x1 x2 x3, ls = [x0, x1, x2, x3] := by
    have h := hok.1
    match ls, h with
    | [a, b, c, d], _ => exact ⟨a, b, c, d, rfl⟩
  refine z_iconst (v := 0) C dX4_inQueues_0 (by decide) ?_
  refine z_istore_n (L2 := [some (.ref a), some (.int 0), none]) C dX4_inQueues_1 rfl (Nat.le_of_ble_eq_true rfl) rfl ?_
  refine z_iconst (v := 0) C dX4_inQueues_2 (by decide) ?_
  refine z_istore_n (L2 := [some (.ref a), some (.int 0), some (.int 0)]) C dX4_inQueues_3 rfl (Nat.le_of_ble_eq_true rfl) rfl ?_
  show eZ x E _ [eO a 4 [.ref o.sa, .ref o.pa, .ref o.ha, .ref o.xa, .int o.pn, .int o.ru, .ref o.ta, .int o.ty, .int o.sp, .int o.fr, .int o.re, .int o.ca, .int o.os, .int o.od, .ref o.na], eIA E o.sa 311 f, rs] 4 [some (.ref a), some (.int 0), some (.int (nI 0))] [] 0 0
  refine z_iload_n C dX4_inQueues_4 rfl rfl ?_
  refine z_iconst (v := 4) C dX4_inQueues_5 (by decide) ?_
  refine z_icmp_ge 23 C dX4_inQueues_6 (by decide) (fun h_ => absurd h_ (by decide)) (fun h_ => ?_)
  refine z_iload_n C dX4_inQueues_9 rfl rfl ?_
  refine z_aload_n C dX4_inQueues_10 rfl rfl ?_
  refine z_iload_n C dX4_inQueues_11 rfl rfl ?_
  refine z_callV (r := (RX4, TX4, 15)) (As := [.int (nI 0)]) (rest := [.int 0]) (Δ := [rs]) [0, 1] [2] 1 (m_Mmany hl E a o f 0 (by decide) x0.1 x0.2 (R.1 0 x0 rfl)) C dX4_inQueues_12 rfl rfl (eIn (i := 0) rfl List.mem_cons_self) rfl rfl q1728 q1730 qs27 q67 q1731 (by decide +kernel) rfl (ePm 3 rfl (by decide +kernel)) rfl rfl ⟨Nat.le_of_ble_eq_true rfl, Nat.le_of_ble_eq_true rfl⟩ (Nat.le_trans (eSm rfl eS0) (Nat.le_of_ble_eq_true rfl)) ⟨Nat.le_of_ble_eq_true rfl, Nat.le_of_ble_eq_true rfl⟩ (fun v_ Γ_ hp_ => ?_)
  obtain ⟨rfl, rfl⟩ := hp_
  show eZ x E _ [eO a 4 [.ref o.sa, .ref o.pa, .ref o.ha, .ref o.xa, .int o.pn, .int o.ru, .ref o.ta, .int o.ty, .int o.sp, .int o.fr, .int o.re, .int o.ca, .int o.os, .int o.od, .ref o.na], eIA E o.sa 311 f, rs] 15 [some (.ref a), some (.int 0), some (.int (nI 0))] [.int (nI x0.2.length), .int 0] 0 0
  refine z_iadd (w := 0 + (nI x0.2.length)) C dX4_inQueues_15 rfl ?_
  refine z_istore_n (L2 := [some (.ref a), some (.int (0 + (nI x0.2.length))), some (.int (nI 0))]) C dX4_inQueues_16 rfl (Nat.le_of_ble_eq_true rfl) rfl ?_
  refine z_iinc (v := nI 1) (L2 := [some (.ref a), some (.int (0 + (nI x0.2.length))), some (.int (nI 1))]) C dX4_inQueues_17 rfl rfl rfl ?_
  refine z_goto 4 C dX4_inQueues_20 (by decide) ?_
  show eZ x E _ [eO a 4 [.ref o.sa, .ref o.pa, .ref o.ha, .ref o.xa, .int o.pn, .int o.ru, .ref o.ta, .int o.ty, .int o.sp, .int o.fr, .int o.re, .int o.ca, .int o.os, .int o.od, .ref o.na], eIA E o.sa 311 f, rs] 4 [some (.ref a), some (.int (0 + nI x0.2.length)), some (.int (nI 1))] [] 0 0
  refine z_iload_n C dX4_inQueues_4 rfl rfl ?_
  refine z_iconst (v := 4) C dX4_inQueues_5 (by decide) ?_
  refine z_icmp_ge 23 C dX4_inQueues_6 (by decide) (fun h_ => absurd h_ (by decide)) (fun h_ => ?_)
  refine z_iload_n C dX4_inQueues_9 rfl rfl ?_
  refine z_aload_n C dX4_inQueues_10 rfl rfl ?_
  refine z_iload_n C dX4_inQueues_11 rfl rfl ?_
  refine z_callV (r := (RX4, TX4, 15)) (As := [.int (nI 1)]) (rest := [.int (0 + nI x0.2.length)]) (Δ := [rs]) [0, 1] [2] 1 (m_Mmany hl E a o f 1 (by decide) x1.1 x1.2 (R.1 1 x1 rfl)) C dX4_inQueues_12 rfl rfl (eIn (i := 0) rfl List.mem_cons_self) rfl rfl q1728 q1730 qs27 q67 q1731 (by decide +kernel) rfl (ePm 3 rfl (by decide +kernel)) rfl rfl ⟨Nat.le_of_ble_eq_true rfl, Nat.le_of_ble_eq_true rfl⟩ (Nat.le_trans (eSm rfl eS0) (Nat.le_of_ble_eq_true rfl)) ⟨Nat.le_of_ble_eq_true rfl, Nat.le_of_ble_eq_true rfl⟩ (fun v_ Γ_ hp_ => ?_)
  obtain ⟨rfl, rfl⟩ := hp_
  show eZ x E _ [eO a 4 [.ref o.sa, .ref o.pa, .ref o.ha, .ref o.xa, .int o.pn, .int o.ru, .ref o.ta, .int o.ty, .int o.sp, .int o.fr, .int o.re, .int o.ca, .int o.os, .int o.od, .ref o.na], eIA E o.sa 311 f, rs] 15 [some (.ref a), some (.int (0 + nI x0.2.length)), some (.int (nI 1))] [.int (nI x1.2.length), .int (0 + nI x0.2.length)] 0 0
  refine z_iadd (w := (0 + nI x0.2.length) + (nI x1.2.length)) C dX4_inQueues_15 rfl ?_
  refine z_istore_n (L2 := [some (.ref a), some (.int ((0 + nI x0.2.length) + (nI x1.2.length))), some (.int (nI 1))]) C dX4_inQueues_16 rfl (Nat.le_of_ble_eq_true rfl) rfl ?_
  refine z_iinc (v := nI 2) (L2 := [some (.ref a), some (.int ((0 + nI x0.2.length) + (nI x1.2.length))), some (.int (nI 2))]) C dX4_inQueues_17 rfl rfl rfl ?_
  refine z_goto 4 C dX4_inQueues_20 (by decide) ?_
  show eZ x E _ [eO a 4 [.ref o.sa, .ref o.pa, .ref o.ha, .ref o.xa, .int o.pn, .int o.ru, .ref o.ta, .int o.ty, .int o.sp, .int o.fr, .int o.re, .int o.ca, .int o.os, .int o.od, .ref o.na], eIA E o.sa 311 f, rs] 4 [some (.ref a), some (.int (0 + nI x0.2.length + nI x1.2.length)), some (.int (nI 2))] [] 0 0
  refine z_iload_n C dX4_inQueues_4 rfl rfl ?_
  refine z_iconst (v := 4) C dX4_inQueues_5 (by decide) ?_
  refine z_icmp_ge 23 C dX4_inQueues_6 (by decide) (fun h_ => absurd h_ (by decide)) (fun h_ => ?_)
  refine z_iload_n C dX4_inQueues_9 rfl rfl ?_
  refine z_aload_n C dX4_inQueues_10 rfl rfl ?_
  refine z_iload_n C dX4_inQueues_11 rfl rfl ?_
  refine z_callV (r := (RX4, TX4, 15)) (As := [.int (nI 2)]) (rest := [.int (0 + nI x0.2.length + nI x1.2.length)]) (Δ := [rs]) [0, 1] [2] 1 (m_Mmany hl E a o f 2 (by decide) x2.1 x2.2 (R.1 2 x2 rfl)) C dX4_inQueues_12 rfl rfl (eIn (i := 0) rfl List.mem_cons_self) rfl rfl q1728 q1730 qs27 q67 q1731 (by decide +kernel) rfl (ePm 3 rfl (by decide +kernel)) rfl rfl ⟨Nat.le_of_ble_eq_true rfl, Nat.le_of_ble_eq_true rfl⟩ (Nat.le_trans (eSm rfl eS0) (Nat.le_of_ble_eq_true rfl)) ⟨Nat.le_of_ble_eq_true rfl, Nat.le_of_ble_eq_true rfl⟩ (fun v_ Γ_ hp_ => ?_)
  obtain ⟨rfl, rfl⟩ := hp_
  show eZ x E _ [eO a 4 [.ref o.sa, .ref o.pa, .ref o.ha, .ref o.xa, .int o.pn, .int o.ru, .ref o.ta, .int o.ty, .int o.sp, .int o.fr, .int o.re, .int o.ca, .int o.os, .int o.od, .ref o.na], eIA E o.sa 311 f, rs] 15 [some (.ref a), some (.int (0 + nI x0.2.length + nI x1.2.length)), some (.int (nI 2))] [.int (nI x2.2.length), .int (0 + nI x0.2.length + nI x1.2.length)] 0 0
  refine z_iadd (w := (0 + nI x0.2.length + nI x1.2.length) + (nI x2.2.length)) C dX4_inQueues_15 rfl ?_
  refine z_istore_n (L2 := [some (.ref a), some (.int ((0 + nI x0.2.length + nI x1.2.length) + (nI x2.2.length))), some (.int (nI 2))]) C dX4_inQueues_16 rfl (Nat.le_of_ble_eq_true rfl) rfl ?_
  refine z_iinc (v := nI 3) (L2 := [some (.ref a), some (.int ((0 + nI x0.2.length + nI x1.2.length) + (nI x2.2.length))), some (.int (nI 3))]) C dX4_inQueues_17 rfl rfl rfl ?_
  refine z_goto 4 C dX4_inQueues_20 (by decide) ?_
  show eZ x E _ [eO a 4 [.ref o.sa, .ref o.pa, .ref o.ha, .ref o.xa, .int o.pn, .int o.ru, .ref o.ta, .int o.ty, .int o.sp, .int o.fr, .int o.re, .int o.ca, .int o.os, .int o.od, .ref o.na], eIA E o.sa 311 f, rs] 4 [some (.ref a), some (.int (0 + nI x0.2.length + nI x1.2.length + nI x2.2.length)), some (.int (nI 3))] [] 0 0
  refine z_iload_n C dX4_inQueues_4 rfl rfl ?_
  refine z_iconst (v := 4) C dX4_inQueues_5 (by decide) ?_
  refine z_icmp_ge 23 C dX4_inQueues_6 (by decide) (fun h_ => absurd h_ (by decide)) (fun h_ => ?_)
  refine z_iload_n C dX4_inQueues_9 rfl rfl ?_
  refine z_aload_n C dX4_inQueues_10 rfl rfl ?_
  refine z_iload_n C dX4_inQueues_11 rfl rfl ?_
  refine z_callV (r := (RX4, TX4, 15)) (As := [.int (nI 3)]) (rest := [.int (0 + nI x0.2.length + nI x1.2.length + nI x2.2.length)]) (Δ := [rs]) [0, 1] [2] 1 (m_Mmany hl E a o f 3 (by decide) x3.1 x3.2 (R.1 3 x3 rfl)) C dX4_inQueues_12 rfl rfl (eIn (i := 0) rfl List.mem_cons_self) rfl rfl q1728 q1730 qs27 q67 q1731 (by decide +kernel) rfl (ePm 3 rfl (by decide +kernel)) rfl rfl ⟨Nat.le_of_ble_eq_true rfl, Nat.le_of_ble_eq_true rfl⟩ (Nat.le_trans (eSm rfl eS0) (Nat.le_of_ble_eq_true rfl)) ⟨Nat.le_of_ble_eq_true rfl, Nat.le_of_ble_eq_true rfl⟩ (fun v_ Γ_ hp_ => ?_)
  obtain ⟨rfl, rfl⟩ := hp_
  show eZ x E _ [eO a 4 [.ref o.sa, .ref o.pa, .ref o.ha, .ref o.xa, .int o.pn, .int o.ru, .ref o.ta, .int o.ty, .int o.sp, .int o.fr, .int o.re, .int o.ca, .int o.os, .int o.od, .ref o.na], eIA E o.sa 311 f, rs] 15 [some (.ref a), some (.int (0 + nI x0.2.length + nI x1.2.length + nI x2.2.length)), some (.int (nI 3))] [.int (nI x3.2.length), .int (0 + nI x0.2.length + nI x1.2.length + nI x2.2.length)] 0 0
  refine z_iadd (w := (0 + nI x0.2.length + nI x1.2.length + nI x2.2.length) + (nI x3.2.length)) C dX4_inQueues_15 rfl ?_
  refine z_istore_n (L2 := [some (.ref a), some (.int ((0 + nI x0.2.length + nI x1.2.length + nI x2.2.length) + (nI x3.2.length))), some (.int (nI 3))]) C dX4_inQueues_16 rfl (Nat.le_of_ble_eq_true rfl) rfl ?_
  refine z_iinc (v := nI 4) (L2 := [some (.ref a), some (.int ((0 + nI x0.2.length + nI x1.2.length + nI x2.2.length) + (nI x3.2.length))), some (.int (nI 4))]) C dX4_inQueues_17 rfl rfl rfl ?_
  refine z_goto 4 C dX4_inQueues_20 (by decide) ?_
  show eZ x E _ [eO a 4 [.ref o.sa, .ref o.pa, .ref o.ha, .ref o.xa, .int o.pn, .int o.ru, .ref o.ta, .int o.ty, .int o.sp, .int o.fr, .int o.re, .int o.ca, .int o.os, .int o.od, .ref o.na], eIA E o.sa 311 f, rs] 4 [some (.ref a), some (.int (0 + nI x0.2.length + nI x1.2.length + nI x2.2.length + nI x3.2.length)), some (.int (nI 4))] [] 0 0
  refine z_iload_n C dX4_inQueues_4 rfl rfl ?_
  refine z_iconst (v := 4) C dX4_inQueues_5 (by decide) ?_
  refine z_icmp_ge 23 C dX4_inQueues_6 (by decide) (fun h_ => ?_) (fun h_ => absurd h_ (absurd (by decide) h_))
  refine z_iload_n C dX4_inQueues_23 rfl rfl ?_
  subst hQ_
  exact z_ret (Γ := [eO a 4 [.ref o.sa, .ref o.pa, .ref o.ha, .ref o.xa, .int o.pn, .int o.ru, .ref o.ta, .int o.ty, .int o.sp, .int o.fr, .int o.re, .int o.ca, .int o.os, .int o.od, .ref o.na], eIA E o.sa 311 f]) C dX4_inQueues_24 rfl rfl (Nat.le_of_ble_eq_true rfl) (Nat.le_of_ble_eq_true rfl) ⟨rfl, rfl⟩
