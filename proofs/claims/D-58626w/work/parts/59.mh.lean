/-! ===== the model: a lane's step ===== -/
set_option maxRecDepth 100000
theorem gTF_A (A : Am) {N : Nat} {x y : Lv × List Eg} (h : A.ls[N]? = some x) (hck : y.1.ck = x.1.ck) : ∀ j, j < 11 → gTF A j = gTF (A.ls.set N y, A.cs, A.bs, A.st, A.u) j := by
  intro j hj
  rcases j11 hj with h9 | h9 | h9 | h9 | h9 | h9 | h9 | h9 | h9 | h9 | h9 <;> subst h9 <;> try rfl
  show gCks A = gCks _
  rw [gCks_set h, hck, Int32.sub_self, Int32.add_zero]
theorem gTF_B (A : Am) {N : Nat} {x y : Lv × List Eg} (h : A.ls[N]? = some x) (hck : y.1.ck = x.1.ck) (bs : List Enr) : ∀ j, j < 11 → upd (upd (gTF A) 9 (nI bs.length)) 3 (A.u.dk + 1) j = gTF (A.ls.set N y, A.cs, bs, A.st, gDkU A.u) j := by
  intro j hj
  rcases j11 hj with h9 | h9 | h9 | h9 | h9 | h9 | h9 | h9 | h9 | h9 | h9 <;> subst h9 <;> try rfl
  show gCks A = gCks _
  rw [gCks_set h, hck, Int32.sub_self, Int32.add_zero]
theorem gTF_C (A : Am) {N : Nat} {x y : Lv × List Eg} (h : A.ls[N]? = some x) (hck : y.1.ck = x.1.ck + 1) (bs : List Enr) : ∀ j, j < 11 → upd (upd (gTF A) 9 (nI bs.length)) 4 (gCks A + 1) j = gTF (A.ls.set N y, A.cs, bs, A.st, A.u) j := by
  intro j hj
  rcases j11 hj with h9 | h9 | h9 | h9 | h9 | h9 | h9 | h9 | h9 | h9 | h9 <;> subst h9 <;> try rfl
  show gCks A + 1 = gCks _
  rw [gCks_set h, hck, Int32.add_comm x.1.ck, Int32.add_sub_cancel]
theorem gTF_D (A : Am) {N : Nat} {x y : Lv × List Eg} (h : A.ls[N]? = some x) (hck : y.1.ck = x.1.ck) (bs : List Enr) {K : Nat} {c c2 : Cr} (hc : A.cs[K]? = some c) (hall : c2.all = c.all + 1) (co wt lk : Int32) (tt2 : Nat → Int32)
    (h5 : tt2 5 = co) (h6 : tt2 6 = gOfC A 7 + (c2.sold - c.sold)) (h7 : tt2 7 = gOfC A 8 + (c2.returned - c.returned)) (ho : ∀ j, j ≠ 5 → j ≠ 6 → j ≠ 7 → tt2 j = upd (upd (upd (upd (gTF A) 9 (nI bs.length)) 8 lk) 2 (gOfC A 3 + 1)) 10 wt j) :
    ∀ j, j < 11 → tt2 j = gTF (A.ls.set N y, A.cs.set K c2, bs, A.st, (A.u.tk, A.u.cm, A.u.dk, co, wt, lk)) j := by
  intro j hj
  rcases j11 hj with h9 | h9 | h9 | h9 | h9 | h9 | h9 | h9 | h9 | h9 | h9 <;> subst h9
  · rw [ho 0 (by decide) (by decide) (by decide)]; rfl
  · rw [ho 1 (by decide) (by decide) (by decide)]; rfl
  · rw [ho 2 (by decide) (by decide) (by decide)]
    show gOfC A 3 + 1 = gOfC _ 3
    rw [gOfC_set 3 hc]
    show gOfC A 3 + 1 = gOfC A 3 + (c2.all - c.all)
    rw [hall, Int32.add_comm c.all, Int32.add_sub_cancel]
  · rw [ho 3 (by decide) (by decide) (by decide)]; rfl
  · rw [ho 4 (by decide) (by decide) (by decide)]
    show gCks A = gCks _
    rw [gCks_set h, hck, Int32.sub_self, Int32.add_zero]
  · rw [h5]; rfl
  · rw [h6]
    show _ = gOfC _ 7
    rw [gOfC_set 7 hc]; rfl
  · rw [h7]
    show _ = gOfC _ 8
    rw [gOfC_set 8 hc]; rfl
  · rw [ho 8 (by decide) (by decide) (by decide)]; rfl
  · rw [ho 9 (by decide) (by decide) (by decide)]; rfl
  · rw [ho 10 (by decide) (by decide) (by decide)]; rfl
theorem gCr2_all (b : Bool) (c : Cr) : (gCr2 (gCr1 b c)).all = c.all + 1 := by
  unfold gCr2
  split <;> rfl

set_option maxHeartbeats 4000000 in
theorem m_Mgrades {l : Launch} (hl : l.stackTraces = false) (E : eEn) (a : Nat) (o : Mo) (f : Nat → Int32) (A : Am) (N : Nat) (hN4 : N < 4) (v : Lv) (gs : List Eg) (hx : A.ls[N]? = some (v, gs)) (hok : gOk A) (hwf : gWf A) (R : Rep f A) : eMet l E yX4_grades (ws_ yX4_grades cX4_grades 6 (some .int)) ({ frames := 4, cells := 0, slots := 0, locals := 88 }) [.ref a, .int (nI N)] [eO a 4 [.ref o.sa, .ref o.pa, .ref o.ha, .ref o.xa, .int o.pn, .int o.ru, .ref o.ta, .int o.ty, .int o.sp, .int o.fr, .int o.re, .int o.ca, .int o.os, .int o.od, .ref o.na], eIA E o.sa 311 f] (fun w Γ => w = some (.int (gStep A.st (nI N) v gs A.cs A.bs A.u).1) ∧ ∃ f2, Γ = [eMO a o, eIA E o.sa 311 f2] ∧ Rep f2 (gLnA A N (gStep A.st (nI N) v gs A.cs A.bs A.u))) := by
  refine eStart (cc := cX4_grades) (nL := 6) (L := [some (.ref a), some (.int (nI N)), none, none, none, none]) hl (by decide) rfl (List.forall_mem_cons.mpr ⟨rfl, (List.forall_mem_cons.mpr ⟨rfl, (fun _ h => absurd h List.not_mem_nil)⟩)⟩) (Nat.le_of_ble_eq_true rfl) ?_
  intro x rs C
  show eZ x E (eQ x E (fun w Γ => w = some (.int (gStep A.st (nI N) v gs A.cs A.bs A.u).1) ∧ ∃ f2, Γ = [eMO a o, eIA E o.sa 311 f2] ∧ Rep f2 (gLnA A N (gStep A.st (nI N) v gs A.cs A.bs A.u))) rs) [eO a 4 [.ref o.sa, .ref o.pa, .ref o.ha, .ref o.xa, .int o.pn, .int o.ru, .ref o.ta, .int o.ty, .int o.sp, .int o.fr, .int o.re, .int o.ca, .int o.os, .int o.od, .ref o.na], eIA E o.sa 311 f, rs] 0 [some (.ref a), some (.int (nI N)), none, none, none, none] [] 0 0
  generalize hQ_ : eQ x E (fun w Γ => w = some (.int (gStep A.st (nI N) v gs A.cs A.bs A.u).1) ∧ ∃ f2, Γ = [eMO a o, eIA E o.sa 311 f2] ∧ Rep f2 (gLnA A N (gStep A.st (nI N) v gs A.cs A.bs A.u))) rs = Q_
  have hS := hwf.2.2.1
  have hR1 := R.1 N (v, gs) hx
  have h8 : gs.length ≤ 8 := hok.2.1 _ (List.mem_of_getElem? hx)
  have hwx := hwf.1 _ (List.mem_of_getElem? hx)
  have hv : gWfL v := hwx.1
  have hgs : ∀ g ∈ gs, gEgOk g = true := hwx.2
  have h6 : A.cs.length ≤ 6 := Nat.le_of_eq hok.2.2.1
  have h10 : A.bs.length ≤ 10 := hok.2.2.2.1
  refine z_aload_n C dX4_grades_0 rfl rfl ?_
  refine z_iload_n C dX4_grades_1 rfl rfl ?_
  refine z_callV (r := (RX4, TX4, 15)) (As := [.int (nI N)]) (rest := []) (Δ := [rs]) [0, 1] [2] 1 (m_Mmany hl E a o f N hN4 v gs hR1) C dX4_grades_2 rfl rfl (eIn (i := 0) rfl List.mem_cons_self) rfl rfl q1728 q1730 qs27 q67 q1731 (by decide +kernel) rfl (ePm 3 rfl (by decide +kernel)) rfl rfl ⟨Nat.le_of_ble_eq_true rfl, Nat.le_of_ble_eq_true rfl⟩ (Nat.le_trans eS0 (Nat.le_of_ble_eq_true rfl)) ⟨Nat.le_of_ble_eq_true rfl, Nat.le_of_ble_eq_true rfl⟩ (fun v_ Γ_ hp_ => ?_)
  obtain ⟨rfl, rfl⟩ := hp_
  show eZ x E _ [eO a 4 [.ref o.sa, .ref o.pa, .ref o.ha, .ref o.xa, .int o.pn, .int o.ru, .ref o.ta, .int o.ty, .int o.sp, .int o.fr, .int o.re, .int o.ca, .int o.os, .int o.od, .ref o.na], eIA E o.sa 311 f, rs] 5 [some (.ref a), some (.int (nI N)), none, none, none, none] [.int (nI gs.length)] 0 0
  refine z_if_ne 10 C dX4_grades_5 (by decide) (fun h1 => ?_) (fun h1 => ?_)
  · obtain ⟨g, t, rfl⟩ : ∃ g t, gs = g :: t := by cases gs with | nil => exact absurd rfl h1 | cons g t => exact ⟨g, t, rfl⟩
    have hgo := hgs g List.mem_cons_self
    have h8t : t.length + 1 ≤ 8 := h8
    have R0 : rP f f N v (g :: t) A.cs A.bs (gTF A) A.st := rP_of R hx
    have hz : ∀ (gs : List Eg) (bs : List Enr), gs.length ≤ 8 → bs.length ≤ 10 → rZ N gs A.cs bs := fun gs bs h1 h2 => ⟨hN4, h1, h6, h2⟩
    have hgb : ∀ e, (gBook e A.bs).length ≤ 10 := fun e => by rw [gBook, List.length_take]; omega
    refine z_iload_n C dX4_grades_10 rfl rfl ?_
    refine z_iconst (v := 0) C dX4_grades_11 (by decide) ?_
    refine z_callS (As := [.int (nI N), .int 0]) (rest := []) (Δ := [eO a 4 [.ref o.sa, .ref o.pa, .ref o.ha, .ref o.xa, .int o.pn, .int o.ru, .ref o.ta, .int o.ty, .int o.sp, .int o.fr, .int o.re, .int o.ca, .int o.os, .int o.od, .ref o.na], eIA E o.sa 311 f, rs]) [] [0, 1, 2] 2 (m_MeggAt hl E N 0) C dX4_grades_12 rfl rfl rfl q1737 q1738 q67 q1739 (by decide +kernel) rfl (ePm 3 rfl (by decide +kernel)) rfl rfl ⟨Nat.le_of_ble_eq_true rfl, Nat.le_of_ble_eq_true rfl⟩ (Nat.le_trans eS0 (Nat.le_of_ble_eq_true rfl)) ⟨Nat.le_of_ble_eq_true rfl, Nat.le_of_ble_eq_true rfl⟩ (fun v_ Γ_ hp_ => ?_)
    obtain ⟨rfl, rfl⟩ := hp_
    show eZ x E _ [eO a 4 [.ref o.sa, .ref o.pa, .ref o.ha, .ref o.xa, .int o.pn, .int o.ru, .ref o.ta, .int o.ty, .int o.sp, .int o.fr, .int o.re, .int o.ca, .int o.os, .int o.od, .ref o.na], eIA E o.sa 311 f, rs] 15 [some (.ref a), some (.int (nI N)), none, none, none, none] [.int (nI (48 * N + 6 * 0))] 0 0
    refine z_istore_n (L2 := [some (.ref a), some (.int (nI N)), some (.int (nI (48 * N + 6 * 0))), none, none, none]) C dX4_grades_15 rfl (Nat.le_of_ble_eq_true rfl) rfl ?_
    refine z_aload_n C dX4_grades_16 rfl rfl ?_
    refine z_iload_n C dX4_grades_17 rfl rfl ?_
    refine z_aload_n C dX4_grades_18 rfl rfl ?_
    refine z_get eK4 0 0 C dX4_grades_19 rfl rfl q1671 (eSame1 rfl) (by decide) rfl ?_
    refine z_iload_n C dX4_grades_22 rfl rfl ?_
    refine z_callS (As := [.int (nI N)]) (rest := [.ref o.sa, .int (nI N), .ref a]) (Δ := [eO a 4 [.ref o.sa, .ref o.pa, .ref o.ha, .ref o.xa, .int o.pn, .int o.ru, .ref o.ta, .int o.ty, .int o.sp, .int o.fr, .int o.re, .int o.ca, .int o.os, .int o.od, .ref o.na], eIA E o.sa 311 f, rs]) [] [0, 1, 2] 1 (m_MlaneAt hl E N) C dX4_grades_23 rfl rfl rfl q1668 q1669 q67 q1670 (by decide +kernel) rfl (ePm 3 rfl (by decide +kernel)) rfl rfl ⟨Nat.le_of_ble_eq_true rfl, Nat.le_of_ble_eq_true rfl⟩ (Nat.le_trans (eSm rfl (eSm rfl (eSm rfl eS0))) (Nat.le_of_ble_eq_true rfl)) ⟨Nat.le_of_ble_eq_true rfl, Nat.le_of_ble_eq_true rfl⟩ (fun v_ Γ_ hp_ => ?_)
    obtain ⟨rfl, rfl⟩ := hp_
    show eZ x E _ [eO a 4 [.ref o.sa, .ref o.pa, .ref o.ha, .ref o.xa, .int o.pn, .int o.ru, .ref o.ta, .int o.ty, .int o.sp, .int o.fr, .int o.re, .int o.ca, .int o.os, .int o.od, .ref o.na], eIA E o.sa 311 f, rs] 26 [some (.ref a), some (.int (nI N)), some (.int (nI (48 * N + 6 * 0))), none, none, none] [.int (nI (192 + 6 * N)), .ref o.sa, .int (nI N), .ref a] 0 0
    refine z_iconst (v := 1) C dX4_grades_26 (by decide) ?_
    refine z_iadd (w := nI (192 + 6 * N + 1)) C dX4_grades_27 (nI_add (192 + 6 * N) 1) ?_
    refine z_iald (m := (192 + 6 * N + 1)) (v := v.li) 1 C dX4_grades_28 rfl rfl (by omega) (by decide) (R0.1.2.1 1 (by decide) (by decide)) ?_
    refine z_callV (r := (RX4, TX4, 15)) (As := [.int (nI N), .int v.li]) (rest := []) (Δ := [rs]) [0, 1] [2] 2 (m_Mbarred hl E a o f A.st R.2.2.2.2 hS N hN4 v (g :: t) hR1 hv hgs h8 v.li) C dX4_grades_29 rfl rfl (eIn (i := 0) rfl List.mem_cons_self) rfl rfl q1773 q1775 qs32 q67 q1776 (by decide +kernel) rfl (ePm 3 rfl (by decide +kernel)) rfl rfl ⟨Nat.le_of_ble_eq_true rfl, Nat.le_of_ble_eq_true rfl⟩ (Nat.le_trans eS0 (Nat.le_of_ble_eq_true rfl)) ⟨Nat.le_of_ble_eq_true rfl, Nat.le_of_ble_eq_true rfl⟩ (fun v_ Γ_ hp_ => ?_)
    obtain ⟨rfl, rfl⟩ := hp_
    show eZ x E _ [eO a 4 [.ref o.sa, .ref o.pa, .ref o.ha, .ref o.xa, .int o.pn, .int o.ru, .ref o.ta, .int o.ty, .int o.sp, .int o.fr, .int o.re, .int o.ca, .int o.os, .int o.od, .ref o.na], eIA E o.sa 311 f, rs] 32 [some (.ref a), some (.int (nI N)), some (.int (nI (48 * N + 6 * 0))), none, none, none] [.int (gMBar A.st v (g :: t) v.li)] 0 0
    refine z_is (w := gBar A.st (gStL v) (gStE v g)) rfl ?_
    refine z_istore_n (L2 := [some (.ref a), some (.int (nI N)), some (.int (nI (48 * N + 6 * 0))), some (.int (gBar A.st (gStL v) (gStE v g))), none, none]) C dX4_grades_32 rfl (Nat.le_of_ble_eq_true rfl) rfl ?_
    refine z_aload_n C dX4_grades_33 rfl rfl ?_
    refine z_iload_n C dX4_grades_34 rfl rfl ?_
    refine z_aload_n C dX4_grades_35 rfl rfl ?_
    refine z_get eK4 0 0 C dX4_grades_36 rfl rfl q1671 (eSame1 rfl) (by decide) rfl ?_
    refine z_iload_n C dX4_grades_39 rfl rfl ?_
    refine z_callS (As := [.int (nI N)]) (rest := [.ref o.sa, .int (nI N), .ref a]) (Δ := [eO a 4 [.ref o.sa, .ref o.pa, .ref o.ha, .ref o.xa, .int o.pn, .int o.ru, .ref o.ta, .int o.ty, .int o.sp, .int o.fr, .int o.re, .int o.ca, .int o.os, .int o.od, .ref o.na], eIA E o.sa 311 f, rs]) [] [0, 1, 2] 1 (m_MlaneAt hl E N) C dX4_grades_40 rfl rfl rfl q1668 q1669 q67 q1670 (by decide +kernel) rfl (ePm 3 rfl (by decide +kernel)) rfl rfl ⟨Nat.le_of_ble_eq_true rfl, Nat.le_of_ble_eq_true rfl⟩ (Nat.le_trans (eSm rfl (eSm rfl (eSm rfl eS0))) (Nat.le_of_ble_eq_true rfl)) ⟨Nat.le_of_ble_eq_true rfl, Nat.le_of_ble_eq_true rfl⟩ (fun v_ Γ_ hp_ => ?_)
    obtain ⟨rfl, rfl⟩ := hp_
    show eZ x E _ [eO a 4 [.ref o.sa, .ref o.pa, .ref o.ha, .ref o.xa, .int o.pn, .int o.ru, .ref o.ta, .int o.ty, .int o.sp, .int o.fr, .int o.re, .int o.ca, .int o.os, .int o.od, .ref o.na], eIA E o.sa 311 f, rs] 43 [some (.ref a), some (.int (nI N)), some (.int (nI (48 * N + 6 * 0))), some (.int (gBar A.st (gStL v) (gStE v g))), none, none] [.int (nI (192 + 6 * N)), .ref o.sa, .int (nI N), .ref a] 0 0
    refine z_iconst (v := 1) C dX4_grades_43 (by decide) ?_
    refine z_iadd (w := nI (192 + 6 * N + 1)) C dX4_grades_44 (nI_add (192 + 6 * N) 1) ?_
    refine z_iald (m := (192 + 6 * N + 1)) (v := v.li) 1 C dX4_grades_45 rfl rfl (by omega) (by decide) (R0.1.2.1 1 (by decide) (by decide)) ?_
    refine z_callV (r := (RX4, TX4, 15)) (As := [.int (nI N), .int v.li]) (rest := []) (Δ := [rs]) [0, 1] [2] 2 (m_MgradeOf hl E a o f A.st R.2.2.2.2 hS N hN4 v (g :: t) hR1 hv g rfl hgo v.li) C dX4_grades_46 rfl rfl (eIn (i := 0) rfl List.mem_cons_self) rfl rfl q1789 q1791 qs36 q67 q1792 (by decide +kernel) rfl (ePm 3 rfl (by decide +kernel)) rfl rfl ⟨Nat.le_of_ble_eq_true rfl, Nat.le_of_ble_eq_true rfl⟩ (Nat.le_trans eS0 (Nat.le_of_ble_eq_true rfl)) ⟨Nat.le_of_ble_eq_true rfl, Nat.le_of_ble_eq_true rfl⟩ (fun v_ Γ_ hp_ => ?_)
    obtain ⟨rfl, rfl⟩ := hp_
    show eZ x E _ [eO a 4 [.ref o.sa, .ref o.pa, .ref o.ha, .ref o.xa, .int o.pn, .int o.ru, .ref o.ta, .int o.ty, .int o.sp, .int o.fr, .int o.re, .int o.ca, .int o.os, .int o.od, .ref o.na], eIA E o.sa 311 f, rs] 49 [some (.ref a), some (.int (nI N)), some (.int (nI (48 * N + 6 * 0))), some (.int (gBar A.st (gStL v) (gStE v g))), none, none] [.int (gGr A.st (gWi v v.li) (gStE v g))] 0 0
    refine z_is (w := gGr A.st (gStL v) (gStE v g)) rfl ?_
    refine z_istore (L2 := [some (.ref a), some (.int (nI N)), some (.int (nI (48 * N + 6 * 0))), some (.int (gBar A.st (gStL v) (gStE v g))), some (.int (gGr A.st (gStL v) (gStE v g))), none]) C dX4_grades_49 (Nat.le_of_ble_eq_true rfl) rfl ?_
    refine z_aload_n C dX4_grades_51 rfl rfl ?_
    refine z_get eK4 0 0 C dX4_grades_52 rfl rfl q1671 (eSame1 rfl) (by decide) rfl ?_
    refine z_iload_n C dX4_grades_55 rfl rfl ?_
    refine z_iconst (v := 2) C dX4_grades_56 (by decide) ?_
    refine z_iadd (w := nI (48 * N + 6 * 0 + 2)) C dX4_grades_57 (nI_add (48 * N + 6 * 0) 2) ?_
    refine z_aload_n C dX4_grades_58 rfl rfl ?_
    refine z_iload_n C dX4_grades_59 rfl rfl ?_
    refine z_callV (r := (RX4, TX4, 15)) (As := [.int (nI N)]) (rest := [.int (nI (48 * N + 6 * 0 + 2)), .ref o.sa]) (Δ := [rs]) [0, 1] [2] 1 (m_MspotsOf hl E a o f N hN4 v (g :: t) hR1 hv g rfl hgo) C dX4_grades_60 rfl rfl (eIn (i := 0) rfl List.mem_cons_self) rfl rfl q1793 q1795 qs37 q67 q1796 (by decide +kernel) rfl (ePm 3 rfl (by decide +kernel)) rfl rfl ⟨Nat.le_of_ble_eq_true rfl, Nat.le_of_ble_eq_true rfl⟩ (Nat.le_trans (eSm rfl (eSm rfl eS0)) (Nat.le_of_ble_eq_true rfl)) ⟨Nat.le_of_ble_eq_true rfl, Nat.le_of_ble_eq_true rfl⟩ (fun v_ Γ_ hp_ => ?_)
    obtain ⟨rfl, rfl⟩ := hp_
    show eZ x E _ [eO a 4 [.ref o.sa, .ref o.pa, .ref o.ha, .ref o.xa, .int o.pn, .int o.ru, .ref o.ta, .int o.ty, .int o.sp, .int o.fr, .int o.re, .int o.ca, .int o.os, .int o.od, .ref o.na], eIA E o.sa 311 f, rs] 63 [some (.ref a), some (.int (nI N)), some (.int (nI (48 * N + 6 * 0))), some (.int (gBar A.st (gStL v) (gStE v g))), some (.int (gGr A.st (gStL v) (gStE v g))), none] [.int ((gStE v g).sp), .int (nI (48 * N + 6 * 0 + 2)), .ref o.sa] 0 0
    obtain ⟨f1, hf1⟩ : ∃ q_ : Nat → Int32, q_ = upd f (48 * N + 6 * 0 + 2) ((gStE v g).sp) := ⟨_, rfl⟩
    refine z_iast (m := (48 * N + 6 * 0 + 2)) (Γ2 := [eO a 4 [.ref o.sa, .ref o.pa, .ref o.ha, .ref o.xa, .int o.pn, .int o.ru, .ref o.ta, .int o.ty, .int o.sp, .int o.fr, .int o.re, .int o.ca, .int o.os, .int o.od, .ref o.na], eIA E o.sa 311 f1, rs]) 1 C dX4_grades_63 rfl rfl (by omega) (by decide) (by rw [hf1]; rfl) ?_
    have R2 : rP f f1 N v (gStE v g :: t) A.cs A.bs (gTF A) A.st := by rw [hf1]; exact rP_e 0 g (gStE v g) rfl 2 _ (by decide) (by intro i h2; have h : i = 0 ∨ i = 1 ∨ i = 2 ∨ i = 3 ∨ i = 4 ∨ i = 5 := (by omega); rcases h with rfl | rfl | rfl | rfl | rfl | rfl <;> rfl) (hz _ _ h8 h10) R0
    refine z_aload_n C dX4_grades_64 rfl rfl ?_
    refine z_get eK4 0 0 C dX4_grades_65 rfl rfl q1671 (eSame1 rfl) (by decide) rfl ?_
    refine z_iload_n C dX4_grades_68 rfl rfl ?_
    refine z_callS (As := [.int (nI N)]) (rest := [.ref o.sa]) (Δ := [eO a 4 [.ref o.sa, .ref o.pa, .ref o.ha, .ref o.xa, .int o.pn, .int o.ru, .ref o.ta, .int o.ty, .int o.sp, .int o.fr, .int o.re, .int o.ca, .int o.os, .int o.od, .ref o.na], eIA E o.sa 311 f1, rs]) [] [0, 1, 2] 1 (m_MlaneAt hl E N) C dX4_grades_69 rfl rfl rfl q1668 q1669 q67 q1670 (by decide +kernel) rfl (ePm 3 rfl (by decide +kernel)) rfl rfl ⟨Nat.le_of_ble_eq_true rfl, Nat.le_of_ble_eq_true rfl⟩ (Nat.le_trans (eSm rfl eS0) (Nat.le_of_ble_eq_true rfl)) ⟨Nat.le_of_ble_eq_true rfl, Nat.le_of_ble_eq_true rfl⟩ (fun v_ Γ_ hp_ => ?_)
    obtain ⟨rfl, rfl⟩ := hp_
    show eZ x E _ [eO a 4 [.ref o.sa, .ref o.pa, .ref o.ha, .ref o.xa, .int o.pn, .int o.ru, .ref o.ta, .int o.ty, .int o.sp, .int o.fr, .int o.re, .int o.ca, .int o.os, .int o.od, .ref o.na], eIA E o.sa 311 f1, rs] 72 [some (.ref a), some (.int (nI N)), some (.int (nI (48 * N + 6 * 0))), some (.int (gBar A.st (gStL v) (gStE v g))), some (.int (gGr A.st (gStL v) (gStE v g))), none] [.int (nI (192 + 6 * N)), .ref o.sa] 0 0
    refine z_iconst (v := 3) C dX4_grades_72 (by decide) ?_
    refine z_iadd (w := nI (192 + 6 * N + 3)) C dX4_grades_73 (nI_add (192 + 6 * N) 3) ?_
    refine z_dup2 C dX4_grades_74 rfl rfl ?_
    refine z_iald (m := (192 + 6 * N + 3)) (v := v.st) 1 C dX4_grades_75 rfl rfl (by omega) (by decide) (R2.1.2.1 3 (by decide) (by decide)) ?_
    refine z_aload_n C dX4_grades_76 rfl rfl ?_
    refine z_get eK4 0 0 C dX4_grades_77 rfl rfl q1671 (eSame1 rfl) (by decide) rfl ?_
    refine z_iload_n C dX4_grades_80 rfl rfl ?_
    refine z_callS (As := [.int (nI N)]) (rest := [.ref o.sa, .int v.st, .int (nI (192 + 6 * N + 3)), .ref o.sa]) (Δ := [eO a 4 [.ref o.sa, .ref o.pa, .ref o.ha, .ref o.xa, .int o.pn, .int o.ru, .ref o.ta, .int o.ty, .int o.sp, .int o.fr, .int o.re, .int o.ca, .int o.os, .int o.od, .ref o.na], eIA E o.sa 311 f1, rs]) [] [0, 1, 2] 1 (m_MlaneAt hl E N) C dX4_grades_81 rfl rfl rfl q1668 q1669 q67 q1670 (by decide +kernel) rfl (ePm 3 rfl (by decide +kernel)) rfl rfl ⟨Nat.le_of_ble_eq_true rfl, Nat.le_of_ble_eq_true rfl⟩ (Nat.le_trans (eSm rfl (eSm rfl (eSm rfl (eSm rfl eS0)))) (Nat.le_of_ble_eq_true rfl)) ⟨Nat.le_of_ble_eq_true rfl, Nat.le_of_ble_eq_true rfl⟩ (fun v_ Γ_ hp_ => ?_)
    obtain ⟨rfl, rfl⟩ := hp_
    show eZ x E _ [eO a 4 [.ref o.sa, .ref o.pa, .ref o.ha, .ref o.xa, .int o.pn, .int o.ru, .ref o.ta, .int o.ty, .int o.sp, .int o.fr, .int o.re, .int o.ca, .int o.os, .int o.od, .ref o.na], eIA E o.sa 311 f1, rs] 84 [some (.ref a), some (.int (nI N)), some (.int (nI (48 * N + 6 * 0))), some (.int (gBar A.st (gStL v) (gStE v g))), some (.int (gGr A.st (gStL v) (gStE v g))), none] [.int (nI (192 + 6 * N)), .ref o.sa, .int v.st, .int (nI (192 + 6 * N + 3)), .ref o.sa] 0 0
    refine z_iconst (v := 3) C dX4_grades_84 (by decide) ?_
    refine z_iadd (w := nI (192 + 6 * N + 3)) C dX4_grades_85 (nI_add (192 + 6 * N) 3) ?_
    refine z_iald (m := (192 + 6 * N + 3)) (v := v.st) 1 C dX4_grades_86 rfl rfl (by omega) (by decide) (R2.1.2.1 3 (by decide) (by decide)) ?_
    suffices J_ : eZ x E Q_ [eO a 4 [.ref o.sa, .ref o.pa, .ref o.ha, .ref o.xa, .int o.pn, .int o.ru, .ref o.ta, .int o.ty, .int o.sp, .int o.fr, .int o.re, .int o.ca, .int o.os, .int o.od, .ref o.na], eIA E o.sa 311 f1, rs] 95 [some (.ref a), some (.int (nI N)), some (.int (nI (48 * N + 6 * 0))), some (.int (gBar A.st (gStL v) (gStE v g))), some (.int (gGr A.st (gStL v) (gStE v g))), none] [.int (if 0 < v.st then 1 else 0), .int v.st, .int (nI (192 + 6 * N + 3)), .ref o.sa] 0 0 by
      refine z_if_le 94 C dX4_grades_87 (by decide) (fun h_ => ?_) (fun h_ => ?_)
      · refine z_iconst (v := 0) C dX4_grades_94 (by decide) ?_
        refine z_is (w := if 0 < v.st then 1 else 0) (if_neg (Int32.not_lt.mpr h_)).symm ?_
        exact J_
      · refine z_iconst (v := 1) C dX4_grades_90 (by decide) ?_
        refine z_goto 95 C dX4_grades_91 (by decide) ?_
        refine z_is (w := if 0 < v.st then 1 else 0) (if_pos (Int32.not_le.mp h_)).symm ?_
        exact J_
    refine z_isub (w := (gStL v).st) C dX4_grades_95 (gStL_st hv) ?_
    obtain ⟨f3, hf3⟩ : ∃ q_ : Nat → Int32, q_ = upd f1 (192 + 6 * N + 3) ((gStL v).st) := ⟨_, rfl⟩
    refine z_iast (m := (192 + 6 * N + 3)) (Γ2 := [eO a 4 [.ref o.sa, .ref o.pa, .ref o.ha, .ref o.xa, .int o.pn, .int o.ru, .ref o.ta, .int o.ty, .int o.sp, .int o.fr, .int o.re, .int o.ca, .int o.os, .int o.od, .ref o.na], eIA E o.sa 311 f3, rs]) 1 C dX4_grades_96 rfl rfl (by omega) (by decide) (by rw [hf3]; rfl) ?_
    have R4 : rP f f3 N (gStL v) (gStE v g :: t) A.cs A.bs (gTF A) A.st := by rw [hf3]; exact rP_l (gStL v) 3 _ (by decide) (by intro i h1 h2; have h : i = 1 ∨ i = 2 ∨ i = 3 ∨ i = 4 ∨ i = 5 := (by omega); rcases h with rfl | rfl | rfl | rfl | rfl <;> rfl) (hz _ _ h8 h10) R2
    have hgo1 : gEgOk (gStE v g) = true := gStE_ok hgo
    refine z_iload_n C dX4_grades_97 rfl rfl ?_
    refine z_iconst (v := 2) C dX4_grades_98 (by decide) ?_
    refine z_icmp_ne 195 C dX4_grades_99 (by decide) (fun h2 => ?_) (fun h2 => ?_)
    · refine z_aload_n C dX4_grades_195 rfl rfl ?_
      refine z_iload_n C dX4_grades_196 rfl rfl ?_
      refine z_iload_n C dX4_grades_197 rfl rfl ?_
      refine z_iconst (v := 3) C dX4_grades_198 (by decide) ?_
      refine z_icmp_ne 207 C dX4_grades_199 (by decide) (fun h3 => ?_) (fun h3 => ?_)
      · have hB0 : gBar A.st (gStL v) (gStE v g) = 0 := by rcases gBar_3 A.st (gStL v) (gStE v g) with h | h | h; exact h; exact absurd h h2; exact absurd h h3
        obtain ⟨K, hK, hGK⟩ := gGr_N A.st (gStL v) (gStE v g)
        obtain ⟨c, hc⟩ : ∃ c, A.cs[K]? = some c := ⟨_, List.getElem?_eq_getElem (by rw [hok.2.2.1]; exact hK)⟩
        have hgC := gC_at hK hc
        have hst : gStep A.st (nI N) v (g :: t) A.cs A.bs A.u = (1, gVp (gStL v), t, A.cs.set K (gCr2 (gCr1 (gCrk (gStE v g)) c)), gBook (gEnr A.u (nI N) (gStE v g) (gGr A.st (gStL v) (gStE v g))) A.bs, gUp (nI K) c (gStE v g) A.u) := by rw [gStep, if_pos hB0, hGK, hgC, nN_nI (by omega)]
        refine z_iload C dX4_grades_207 rfl ?_
        refine z_callV (r := (RX4, TX4, 15)) (As := [.int (nI N), .int (gGr A.st (gStL v) (gStE v g))]) (rest := []) (Δ := [rs]) [0, 1] [2] 2 (m_Menters hl E a o f f3 N (gStL v) t (gStE v g) A.cs A.bs (gTF A) A.st (hz _ _ h8 h10) R4 hgo1 rfl (gGr A.st (gStL v) (gStE v g))) C dX4_grades_209 rfl rfl (eIn (i := 0) rfl List.mem_cons_self) rfl rfl q1800 q1802 qs38 q67 q1803 (by decide +kernel) rfl (ePm 3 rfl (by decide +kernel)) rfl rfl ⟨Nat.le_of_ble_eq_true rfl, Nat.le_of_ble_eq_true rfl⟩ (Nat.le_trans eS0 (Nat.le_of_ble_eq_true rfl)) ⟨Nat.le_of_ble_eq_true rfl, Nat.le_of_ble_eq_true rfl⟩ (fun v_ Γ_ hp_ => ?_)
        obtain ⟨rfl, f8, rfl, R8⟩ := hp_
        show eZ x E _ [eO a 4 [.ref o.sa, .ref o.pa, .ref o.ha, .ref o.xa, .int o.pn, .int o.ru, .ref o.ta, .int o.ty, .int o.sp, .int o.fr, .int o.re, .int o.ca, .int o.os, .int o.od, .ref o.na], eIA E o.sa 311 f8, rs] 212 [some (.ref a), some (.int (nI N)), some (.int (nI (48 * N + 6 * 0))), some (.int (gBar A.st (gStL v) (gStE v g))), some (.int (gGr A.st (gStL v) (gStE v g))), none] [] 0 0
        refine z_iload_n C dX4_grades_212 rfl rfl ?_
        refine z_iconst (v := 3) C dX4_grades_213 (by decide) ?_
        refine z_icmp_ne 270 C dX4_grades_214 (by decide) (fun h_ => ?_) (fun h_ => absurd h_ (absurd h_ h3))
        refine z_aload_n C dX4_grades_270 rfl rfl ?_
        refine z_get eK4 0 0 C dX4_grades_271 rfl rfl q1671 (eSame1 rfl) (by decide) rfl ?_
        refine z_iload_n C dX4_grades_274 rfl rfl ?_
        refine z_iconst (v := 4) C dX4_grades_275 (by decide) ?_
        refine z_iadd (w := nI (48 * N + 6 * 0 + 4)) C dX4_grades_276 (nI_add (48 * N + 6 * 0) 4) ?_
        refine z_iald (m := (48 * N + 6 * 0 + 4)) (v := g.c + 1) 1 C dX4_grades_277 rfl rfl (by omega) (by decide) (R8.1.2.2 0 (gStE v g) rfl 4 (by decide)) ?_
        suffices J_ : eZ x E Q_ [eO a 4 [.ref o.sa, .ref o.pa, .ref o.ha, .ref o.xa, .int o.pn, .int o.ru, .ref o.ta, .int o.ty, .int o.sp, .int o.fr, .int o.re, .int o.ca, .int o.os, .int o.od, .ref o.na], eIA E o.sa 311 f8, rs] 286 [some (.ref a), some (.int (nI N)), some (.int (nI (48 * N + 6 * 0))), some (.int (gBar A.st (gStL v) (gStE v g))), some (.int (gGr A.st (gStL v) (gStE v g))), none] [.int (eB (gCrk (gStE v g)))] 0 0 by
          refine z_if_le 285 C dX4_grades_278 (by decide) (fun h_ => ?_) (fun h_ => ?_)
          · refine z_iconst (v := 0) C dX4_grades_285 (by decide) ?_
            refine z_is (w := eB (gCrk (gStE v g))) (by rw [show gCrk (gStE v g) = false from decide_eq_false (fun h => h ((gCrk_le hgo).mp h_))]; rfl) ?_
            exact J_
          · refine z_iconst (v := 1) C dX4_grades_281 (by decide) ?_
            refine z_goto 286 C dX4_grades_282 (by decide) ?_
            refine z_is (w := eB (gCrk (gStE v g))) (by rw [show gCrk (gStE v g) = true from decide_eq_true (fun h => h_ ((gCrk_le hgo).mpr h))]; rfl) ?_
            exact J_
        refine z_istore (L2 := [some (.ref a), some (.int (nI N)), some (.int (nI (48 * N + 6 * 0))), some (.int (gBar A.st (gStL v) (gStE v g))), some (.int (gGr A.st (gStL v) (gStE v g))), some (.int (eB (gCrk (gStE v g))))]) C dX4_grades_286 (Nat.le_of_ble_eq_true rfl) rfl ?_
        refine z_aload_n C dX4_grades_288 rfl rfl ?_
        refine z_get eK4 0 0 C dX4_grades_289 rfl rfl q1671 (eSame1 rfl) (by decide) rfl ?_
        refine z_sipush (v := 304) C dX4_grades_292 (by decide) ?_
        refine z_dup2 C dX4_grades_295 rfl rfl ?_
        refine z_iald (m := 304) (v := A.u.lk) 1 C dX4_grades_296 rfl rfl (by omega) (by decide) (R8.2.2.2.2.1 8 (by decide)) ?_
        refine z_iload C dX4_grades_297 rfl ?_
        refine z_iadd (w := A.u.lk + (eB (gCrk (gStE v g)))) C dX4_grades_299 rfl ?_
        refine z_is (w := A.u.lk + eB (gCrk (gStE v g))) rfl ?_
        obtain ⟨f19, hf19⟩ : ∃ q_ : Nat → Int32, q_ = upd f8 304 (A.u.lk + eB (gCrk (gStE v g))) := ⟨_, rfl⟩
        refine z_iast (m := 304) (Γ2 := [eO a 4 [.ref o.sa, .ref o.pa, .ref o.ha, .ref o.xa, .int o.pn, .int o.ru, .ref o.ta, .int o.ty, .int o.sp, .int o.fr, .int o.re, .int o.ca, .int o.os, .int o.od, .ref o.na], eIA E o.sa 311 f19, rs]) 1 C dX4_grades_300 rfl rfl (by omega) (by decide) (by rw [hf19]; rfl) ?_
        have R20 : rP f f19 N (gStL v) (gStE v g :: t) A.cs (gBook (gEnr A.u (nI N) (gStE v g) (gGr A.st (gStL v) (gStE v g))) A.bs) (upd (upd (gTF A) 9 (nI (gBook (gEnr A.u (nI N) (gStE v g) (gGr A.st (gStL v) (gStE v g))) A.bs).length)) 8 (A.u.lk + eB (gCrk (gStE v g)))) A.st := by rw [hf19]; exact rP_t 8 _ (by decide) (hz _ _ h8 (hgb _)) R8
        refine z_aload_n C dX4_grades_301 rfl rfl ?_
        refine z_get eK4 0 0 C dX4_grades_302 rfl rfl q1671 (eSame1 rfl) (by decide) rfl ?_
        refine z_sipush (v := 298) C dX4_grades_305 (by decide) ?_
        refine z_dup2 C dX4_grades_308 rfl rfl ?_
        refine z_iald (m := 298) (v := gOfC A 3) 1 C dX4_grades_309 rfl rfl (by omega) (by decide) (R20.2.2.2.2.1 2 (by decide)) ?_
        refine z_iconst (v := 1) C dX4_grades_310 (by decide) ?_
        refine z_iadd (w := (gOfC A 3) + 1) C dX4_grades_311 rfl ?_
        refine z_is (w := gOfC A 3 + 1) rfl ?_
        obtain ⟨f21, hf21⟩ : ∃ q_ : Nat → Int32, q_ = upd f19 298 (gOfC A 3 + 1) := ⟨_, rfl⟩
        refine z_iast (m := 298) (Γ2 := [eO a 4 [.ref o.sa, .ref o.pa, .ref o.ha, .ref o.xa, .int o.pn, .int o.ru, .ref o.ta, .int o.ty, .int o.sp, .int o.fr, .int o.re, .int o.ca, .int o.os, .int o.od, .ref o.na], eIA E o.sa 311 f21, rs]) 1 C dX4_grades_312 rfl rfl (by omega) (by decide) (by rw [hf21]; rfl) ?_
        have R22 : rP f f21 N (gStL v) (gStE v g :: t) A.cs (gBook (gEnr A.u (nI N) (gStE v g) (gGr A.st (gStL v) (gStE v g))) A.bs) (upd (upd (upd (gTF A) 9 (nI (gBook (gEnr A.u (nI N) (gStE v g) (gGr A.st (gStL v) (gStE v g))) A.bs).length)) 8 (A.u.lk + eB (gCrk (gStE v g)))) 2 (gOfC A 3 + 1)) A.st := by rw [hf21]; exact rP_t 2 _ (by decide) (hz _ _ h8 (hgb _)) R20
        refine z_aload_n C dX4_grades_313 rfl rfl ?_
        refine z_get eK4 0 0 C dX4_grades_314 rfl rfl q1671 (eSame1 rfl) (by decide) rfl ?_
        refine z_sipush (v := 306) C dX4_grades_317 (by decide) ?_
        refine z_dup2 C dX4_grades_320 rfl rfl ?_
        refine z_iald (m := 306) (v := A.u.wt) 1 C dX4_grades_321 rfl rfl (by omega) (by decide) (R22.2.2.2.2.1 10 (by decide)) ?_
        refine z_aload_n C dX4_grades_322 rfl rfl ?_
        refine z_get eK4 0 0 C dX4_grades_323 rfl rfl q1671 (eSame1 rfl) (by decide) rfl ?_
        refine z_iload_n C dX4_grades_326 rfl rfl ?_
        refine z_iconst (v := 0) C dX4_grades_327 (by decide) ?_
        refine z_iadd (w := nI (48 * N + 6 * 0)) C dX4_grades_328 (nI_add (48 * N + 6 * 0) 0) ?_
        refine z_iald (m := (48 * N + 6 * 0)) (v := g.w) 1 C dX4_grades_329 rfl rfl (by omega) (by decide) (R22.1.2.2 0 (gStE v g) rfl 0 (by decide)) ?_
        refine z_iadd (w := A.u.wt + g.w) C dX4_grades_330 rfl ?_
        refine z_is (w := A.u.wt + g.w) rfl ?_
        obtain ⟨f23, hf23⟩ : ∃ q_ : Nat → Int32, q_ = upd f21 306 (A.u.wt + g.w) := ⟨_, rfl⟩
        refine z_iast (m := 306) (Γ2 := [eO a 4 [.ref o.sa, .ref o.pa, .ref o.ha, .ref o.xa, .int o.pn, .int o.ru, .ref o.ta, .int o.ty, .int o.sp, .int o.fr, .int o.re, .int o.ca, .int o.os, .int o.od, .ref o.na], eIA E o.sa 311 f23, rs]) 1 C dX4_grades_331 rfl rfl (by omega) (by decide) (by rw [hf23]; rfl) ?_
        have R24 : rP f f23 N (gStL v) (gStE v g :: t) A.cs (gBook (gEnr A.u (nI N) (gStE v g) (gGr A.st (gStL v) (gStE v g))) A.bs) (upd (upd (upd (upd (gTF A) 9 (nI (gBook (gEnr A.u (nI N) (gStE v g) (gGr A.st (gStL v) (gStE v g))) A.bs).length)) 8 (A.u.lk + eB (gCrk (gStE v g)))) 2 (gOfC A 3 + 1)) 10 (A.u.wt + g.w)) A.st := by rw [hf23]; exact rP_t 10 _ (by decide) (hz _ _ h8 (hgb _)) R22
        refine z_aload_n C dX4_grades_332 rfl rfl ?_
        refine z_get eK4 0 0 C dX4_grades_333 rfl rfl q1671 (eSame1 rfl) (by decide) rfl ?_
        refine z_iload_n C dX4_grades_336 rfl rfl ?_
        refine z_callS (As := [.int (nI N)]) (rest := [.ref o.sa]) (Δ := [eO a 4 [.ref o.sa, .ref o.pa, .ref o.ha, .ref o.xa, .int o.pn, .int o.ru, .ref o.ta, .int o.ty, .int o.sp, .int o.fr, .int o.re, .int o.ca, .int o.os, .int o.od, .ref o.na], eIA E o.sa 311 f23, rs]) [] [0, 1, 2] 1 (m_MlaneAt hl E N) C dX4_grades_337 rfl rfl rfl q1668 q1669 q67 q1670 (by decide +kernel) rfl (ePm 3 rfl (by decide +kernel)) rfl rfl ⟨Nat.le_of_ble_eq_true rfl, Nat.le_of_ble_eq_true rfl⟩ (Nat.le_trans (eSm rfl eS0) (Nat.le_of_ble_eq_true rfl)) ⟨Nat.le_of_ble_eq_true rfl, Nat.le_of_ble_eq_true rfl⟩ (fun v_ Γ_ hp_ => ?_)
        obtain ⟨rfl, rfl⟩ := hp_
        show eZ x E _ [eO a 4 [.ref o.sa, .ref o.pa, .ref o.ha, .ref o.xa, .int o.pn, .int o.ru, .ref o.ta, .int o.ty, .int o.sp, .int o.fr, .int o.re, .int o.ca, .int o.os, .int o.od, .ref o.na], eIA E o.sa 311 f23, rs] 340 [some (.ref a), some (.int (nI N)), some (.int (nI (48 * N + 6 * 0))), some (.int (gBar A.st (gStL v) (gStE v g))), some (.int (gGr A.st (gStL v) (gStE v g))), some (.int (eB (gCrk (gStE v g))))] [.int (nI (192 + 6 * N)), .ref o.sa] 0 0
        refine z_iconst (v := 4) C dX4_grades_340 (by decide) ?_
        refine z_iadd (w := nI (192 + 6 * N + 4)) C dX4_grades_341 (nI_add (192 + 6 * N) 4) ?_
        refine z_dup2 C dX4_grades_342 rfl rfl ?_
        refine z_iald (m := (192 + 6 * N + 4)) (v := v.gd) 1 C dX4_grades_343 rfl rfl (by omega) (by decide) (R24.1.2.1 4 (by decide) (by decide)) ?_
        refine z_iconst (v := 1) C dX4_grades_344 (by decide) ?_
        refine z_iadd (w := v.gd + 1) C dX4_grades_345 rfl ?_
        obtain ⟨f25, hf25⟩ : ∃ q_ : Nat → Int32, q_ = upd f23 (192 + 6 * N + 4) (v.gd + 1) := ⟨_, rfl⟩
        refine z_iast (m := (192 + 6 * N + 4)) (Γ2 := [eO a 4 [.ref o.sa, .ref o.pa, .ref o.ha, .ref o.xa, .int o.pn, .int o.ru, .ref o.ta, .int o.ty, .int o.sp, .int o.fr, .int o.re, .int o.ca, .int o.os, .int o.od, .ref o.na], eIA E o.sa 311 f25, rs]) 1 C dX4_grades_346 rfl rfl (by omega) (by decide) (by rw [hf25]; rfl) ?_
        have R26 : rP f f25 N (gVp (gStL v)) (gStE v g :: t) A.cs (gBook (gEnr A.u (nI N) (gStE v g) (gGr A.st (gStL v) (gStE v g))) A.bs) (upd (upd (upd (upd (gTF A) 9 (nI (gBook (gEnr A.u (nI N) (gStE v g) (gGr A.st (gStL v) (gStE v g))) A.bs).length)) 8 (A.u.lk + eB (gCrk (gStE v g)))) 2 (gOfC A 3 + 1)) 10 (A.u.wt + g.w)) A.st := by rw [hf25]; exact rP_l (gVp (gStL v)) 4 _ (by decide) (by intro i h1 h2; have h : i = 1 ∨ i = 2 ∨ i = 3 ∨ i = 4 ∨ i = 5 := (by omega); rcases h with rfl | rfl | rfl | rfl | rfl <;> rfl) (hz _ _ h8 (hgb _)) R24
        refine z_aload_n C dX4_grades_347 rfl rfl ?_
        refine z_iload_n C dX4_grades_348 rfl rfl ?_
        refine z_callV (r := (RX4, TX4, 15)) (As := [.int (nI N)]) (rest := []) (Δ := [rs]) [0, 1] [2] 1 (m_Mleaves hl E a o f f25 N (gVp (gStL v)) t (gStE v g) A.cs (gBook (gEnr A.u (nI N) (gStE v g) (gGr A.st (gStL v) (gStE v g))) A.bs) (upd (upd (upd (upd (gTF A) 9 (nI (gBook (gEnr A.u (nI N) (gStE v g) (gGr A.st (gStL v) (gStE v g))) A.bs).length)) 8 (A.u.lk + eB (gCrk (gStE v g)))) 2 (gOfC A 3 + 1)) 10 (A.u.wt + g.w)) A.st (hz _ _ h8 (hgb _)) R26) C dX4_grades_349 rfl rfl (eIn (i := 0) rfl List.mem_cons_self) rfl rfl q1804 q1806 qs39 q67 q1807 (by decide +kernel) rfl (ePm 3 rfl (by decide +kernel)) rfl rfl ⟨Nat.le_of_ble_eq_true rfl, Nat.le_of_ble_eq_true rfl⟩ (Nat.le_trans eS0 (Nat.le_of_ble_eq_true rfl)) ⟨Nat.le_of_ble_eq_true rfl, Nat.le_of_ble_eq_true rfl⟩ (fun v_ Γ_ hp_ => ?_)
        obtain ⟨rfl, f9, rfl, R9, -⟩ := hp_
        show eZ x E _ [eO a 4 [.ref o.sa, .ref o.pa, .ref o.ha, .ref o.xa, .int o.pn, .int o.ru, .ref o.ta, .int o.ty, .int o.sp, .int o.fr, .int o.re, .int o.ca, .int o.os, .int o.od, .ref o.na], eIA E o.sa 311 f9, rs] 352 [some (.ref a), some (.int (nI N)), some (.int (nI (48 * N + 6 * 0))), some (.int (gBar A.st (gStL v) (gStE v g))), some (.int (gGr A.st (gStL v) (gStE v g))), some (.int (eB (gCrk (gStE v g))))] [] 0 0
        refine z_aload_n C dX4_grades_352 rfl rfl ?_
        refine z_iload C dX4_grades_353 rfl ?_
        refine z_is (w := nI K) hGK ?_
        refine z_iload C dX4_grades_355 rfl ?_
        refine z_callV (r := (RX4, TX4, 15)) (As := [.int (nI K), .int (eB (gCrk (gStE v g)))]) (rest := []) (Δ := [rs]) [0, 1] [2] 2 (m_Mfills hl E a o f f9 N (gVp (gStL v)) t A.cs (gBook (gEnr A.u (nI N) (gStE v g) (gGr A.st (gStL v) (gStE v g))) A.bs) (upd (upd (upd (upd (gTF A) 9 (nI (gBook (gEnr A.u (nI N) (gStE v g) (gGr A.st (gStL v) (gStE v g))) A.bs).length)) 8 (A.u.lk + eB (gCrk (gStE v g)))) 2 (gOfC A 3 + 1)) 10 (A.u.wt + g.w)) A.st (hz _ _ (by omega) (hgb _)) R9 K hK c hc (hwf.2.1 c (List.mem_of_getElem? hc)) (gCrk (gStE v g))) C dX4_grades_357 rfl rfl (eIn (i := 0) rfl List.mem_cons_self) rfl rfl q1808 q1810 qs40 q67 q1811 (by decide +kernel) rfl (ePm 3 rfl (by decide +kernel)) rfl rfl ⟨Nat.le_of_ble_eq_true rfl, Nat.le_of_ble_eq_true rfl⟩ (Nat.le_trans eS0 (Nat.le_of_ble_eq_true rfl)) ⟨Nat.le_of_ble_eq_true rfl, Nat.le_of_ble_eq_true rfl⟩ (fun v_ Γ_ hp_ => ?_)
        obtain ⟨rfl, f10, tt2, rfl, R10, ht5, ht6, ht7, hto⟩ := hp_
        show eZ x E _ [eO a 4 [.ref o.sa, .ref o.pa, .ref o.ha, .ref o.xa, .int o.pn, .int o.ru, .ref o.ta, .int o.ty, .int o.sp, .int o.fr, .int o.re, .int o.ca, .int o.os, .int o.od, .ref o.na], eIA E o.sa 311 f10, rs] 360 [some (.ref a), some (.int (nI N)), some (.int (nI (48 * N + 6 * 0))), some (.int (gBar A.st (gStL v) (gStE v g))), some (.int (gGr A.st (gStL v) (gStE v g))), some (.int (eB (gCrk (gStE v g))))] [] 0 0
        refine z_iconst (v := 1) C dX4_grades_360 (by decide) ?_
        subst hQ_
        exact z_ret (Γ := [eO a 4 [.ref o.sa, .ref o.pa, .ref o.ha, .ref o.xa, .int o.pn, .int o.ru, .ref o.ta, .int o.ty, .int o.sp, .int o.fr, .int o.re, .int o.ca, .int o.os, .int o.od, .ref o.na], eIA E o.sa 311 f10]) C dX4_grades_361 rfl rfl (Nat.le_of_ble_eq_true rfl) (Nat.le_of_ble_eq_true rfl) ⟨by rw [hst], _, rfl, by rw [hst]; exact rP_to R hok hN4 R10 rfl rfl rfl rfl (gTF_D A (y := (gVp (gStL v), t)) hx rfl _ hc (gCr2_all _ c) (gCo (nI K) (gCr1 (gCrk (gStE v g)) c) A.u.co) _ _ tt2 ht5 ht6 ht7 hto)⟩
      · have hst : gStep A.st (nI N) v (g :: t) A.cs A.bs A.u = (0, gBrV A.st (gStL v), t, A.cs, gBook (gEnr A.u (nI N) (gStE v g) 7) A.bs, A.u) := by rw [gStep, if_neg (by rw [h3]; decide), if_neg h2]
        refine z_bipush (v := 7) C dX4_grades_202 (by decide) ?_
        refine z_goto 209 C dX4_grades_204 (by decide) ?_
        refine z_callV (r := (RX4, TX4, 15)) (As := [.int (nI N), .int 7]) (rest := []) (Δ := [rs]) [0, 1] [2] 2 (m_Menters hl E a o f f3 N (gStL v) t (gStE v g) A.cs A.bs (gTF A) A.st (hz _ _ h8 h10) R4 hgo1 rfl 7) C dX4_grades_209 rfl rfl (eIn (i := 0) rfl List.mem_cons_self) rfl rfl q1800 q1802 qs38 q67 q1803 (by decide +kernel) rfl (ePm 3 rfl (by decide +kernel)) rfl rfl ⟨Nat.le_of_ble_eq_true rfl, Nat.le_of_ble_eq_true rfl⟩ (Nat.le_trans eS0 (Nat.le_of_ble_eq_true rfl)) ⟨Nat.le_of_ble_eq_true rfl, Nat.le_of_ble_eq_true rfl⟩ (fun v_ Γ_ hp_ => ?_)
        obtain ⟨rfl, f8, rfl, R8⟩ := hp_
        show eZ x E _ [eO a 4 [.ref o.sa, .ref o.pa, .ref o.ha, .ref o.xa, .int o.pn, .int o.ru, .ref o.ta, .int o.ty, .int o.sp, .int o.fr, .int o.re, .int o.ca, .int o.os, .int o.od, .ref o.na], eIA E o.sa 311 f8, rs] 212 [some (.ref a), some (.int (nI N)), some (.int (nI (48 * N + 6 * 0))), some (.int (gBar A.st (gStL v) (gStE v g))), some (.int (gGr A.st (gStL v) (gStE v g))), none] [] 0 0
        refine z_iload_n C dX4_grades_212 rfl rfl ?_
        refine z_iconst (v := 3) C dX4_grades_213 (by decide) ?_
        refine z_icmp_ne 270 C dX4_grades_214 (by decide) (fun h_ => absurd h_ (fun h9 => h9 h3)) (fun h_ => ?_)
        refine z_aload_n C dX4_grades_217 rfl rfl ?_
        refine z_get eK4 0 0 C dX4_grades_218 rfl rfl q1671 (eSame1 rfl) (by decide) rfl ?_
        refine z_iload_n C dX4_grades_221 rfl rfl ?_
        refine z_callS (As := [.int (nI N)]) (rest := [.ref o.sa]) (Δ := [eO a 4 [.ref o.sa, .ref o.pa, .ref o.ha, .ref o.xa, .int o.pn, .int o.ru, .ref o.ta, .int o.ty, .int o.sp, .int o.fr, .int o.re, .int o.ca, .int o.os, .int o.od, .ref o.na], eIA E o.sa 311 f8, rs]) [] [0, 1, 2] 1 (m_MlaneAt hl E N) C dX4_grades_222 rfl rfl rfl q1668 q1669 q67 q1670 (by decide +kernel) rfl (ePm 3 rfl (by decide +kernel)) rfl rfl ⟨Nat.le_of_ble_eq_true rfl, Nat.le_of_ble_eq_true rfl⟩ (Nat.le_trans (eSm rfl eS0) (Nat.le_of_ble_eq_true rfl)) ⟨Nat.le_of_ble_eq_true rfl, Nat.le_of_ble_eq_true rfl⟩ (fun v_ Γ_ hp_ => ?_)
        obtain ⟨rfl, rfl⟩ := hp_
        show eZ x E _ [eO a 4 [.ref o.sa, .ref o.pa, .ref o.ha, .ref o.xa, .int o.pn, .int o.ru, .ref o.ta, .int o.ty, .int o.sp, .int o.fr, .int o.re, .int o.ca, .int o.os, .int o.od, .ref o.na], eIA E o.sa 311 f8, rs] 225 [some (.ref a), some (.int (nI N)), some (.int (nI (48 * N + 6 * 0))), some (.int (gBar A.st (gStL v) (gStE v g))), some (.int (gGr A.st (gStL v) (gStE v g))), none] [.int (nI (192 + 6 * N)), .ref o.sa] 0 0
        refine z_iconst (v := 3) C dX4_grades_225 (by decide) ?_
        refine z_iadd (w := nI (192 + 6 * N + 3)) C dX4_grades_226 (nI_add (192 + 6 * N) 3) ?_
        refine z_aload_n C dX4_grades_227 rfl rfl ?_
        refine z_get eK4 0 0 C dX4_grades_228 rfl rfl q1671 (eSame1 rfl) (by decide) rfl ?_
        refine z_sipush (v := 309) C dX4_grades_231 (by decide) ?_
        refine z_iald (m := 309) (v := A.st 2) 1 C dX4_grades_234 rfl rfl (by omega) (by decide) (R8.2.2.2.2.2 2 (by decide)) ?_
        obtain ⟨f13, hf13⟩ : ∃ q_ : Nat → Int32, q_ = upd f8 (192 + 6 * N + 3) (A.st 2) := ⟨_, rfl⟩
        refine z_iast (m := (192 + 6 * N + 3)) (Γ2 := [eO a 4 [.ref o.sa, .ref o.pa, .ref o.ha, .ref o.xa, .int o.pn, .int o.ru, .ref o.ta, .int o.ty, .int o.sp, .int o.fr, .int o.re, .int o.ca, .int o.os, .int o.od, .ref o.na], eIA E o.sa 311 f13, rs]) 1 C dX4_grades_235 rfl rfl (by omega) (by decide) (by rw [hf13]; rfl) ?_
        have R14 : rP f f13 N (v.li, v.tu, A.st 2, v.gd, v.ck) (gStE v g :: t) A.cs (gBook (gEnr A.u (nI N) (gStE v g) 7) A.bs) (upd (gTF A) 9 (nI (gBook (gEnr A.u (nI N) (gStE v g) 7) A.bs).length)) A.st := by rw [hf13]; exact rP_l (v.li, v.tu, A.st 2, v.gd, v.ck) 3 _ (by decide) (by intro i h1 h2; have h : i = 1 ∨ i = 2 ∨ i = 3 ∨ i = 4 ∨ i = 5 := (by omega); rcases h with rfl | rfl | rfl | rfl | rfl <;> rfl) (hz _ _ h8 (hgb _)) R8
        refine z_aload_n C dX4_grades_236 rfl rfl ?_
        refine z_get eK4 0 0 C dX4_grades_237 rfl rfl q1671 (eSame1 rfl) (by decide) rfl ?_
        refine z_iload_n C dX4_grades_240 rfl rfl ?_
        refine z_callS (As := [.int (nI N)]) (rest := [.ref o.sa]) (Δ := [eO a 4 [.ref o.sa, .ref o.pa, .ref o.ha, .ref o.xa, .int o.pn, .int o.ru, .ref o.ta, .int o.ty, .int o.sp, .int o.fr, .int o.re, .int o.ca, .int o.os, .int o.od, .ref o.na], eIA E o.sa 311 f13, rs]) [] [0, 1, 2] 1 (m_MlaneAt hl E N) C dX4_grades_241 rfl rfl rfl q1668 q1669 q67 q1670 (by decide +kernel) rfl (ePm 3 rfl (by decide +kernel)) rfl rfl ⟨Nat.le_of_ble_eq_true rfl, Nat.le_of_ble_eq_true rfl⟩ (Nat.le_trans (eSm rfl eS0) (Nat.le_of_ble_eq_true rfl)) ⟨Nat.le_of_ble_eq_true rfl, Nat.le_of_ble_eq_true rfl⟩ (fun v_ Γ_ hp_ => ?_)
        obtain ⟨rfl, rfl⟩ := hp_
        show eZ x E _ [eO a 4 [.ref o.sa, .ref o.pa, .ref o.ha, .ref o.xa, .int o.pn, .int o.ru, .ref o.ta, .int o.ty, .int o.sp, .int o.fr, .int o.re, .int o.ca, .int o.os, .int o.od, .ref o.na], eIA E o.sa 311 f13, rs] 244 [some (.ref a), some (.int (nI N)), some (.int (nI (48 * N + 6 * 0))), some (.int (gBar A.st (gStL v) (gStE v g))), some (.int (gGr A.st (gStL v) (gStE v g))), none] [.int (nI (192 + 6 * N)), .ref o.sa] 0 0
        refine z_iconst (v := 5) C dX4_grades_244 (by decide) ?_
        refine z_iadd (w := nI (192 + 6 * N + 5)) C dX4_grades_245 (nI_add (192 + 6 * N) 5) ?_
        refine z_dup2 C dX4_grades_246 rfl rfl ?_
        refine z_iald (m := (192 + 6 * N + 5)) (v := v.ck) 1 C dX4_grades_247 rfl rfl (by omega) (by decide) (R14.1.2.1 5 (by decide) (by decide)) ?_
        refine z_iconst (v := 1) C dX4_grades_248 (by decide) ?_
        refine z_iadd (w := v.ck + 1) C dX4_grades_249 rfl ?_
        obtain ⟨f15, hf15⟩ : ∃ q_ : Nat → Int32, q_ = upd f13 (192 + 6 * N + 5) (v.ck + 1) := ⟨_, rfl⟩
        refine z_iast (m := (192 + 6 * N + 5)) (Γ2 := [eO a 4 [.ref o.sa, .ref o.pa, .ref o.ha, .ref o.xa, .int o.pn, .int o.ru, .ref o.ta, .int o.ty, .int o.sp, .int o.fr, .int o.re, .int o.ca, .int o.os, .int o.od, .ref o.na], eIA E o.sa 311 f15, rs]) 1 C dX4_grades_250 rfl rfl (by omega) (by decide) (by rw [hf15]; rfl) ?_
        have R16 : rP f f15 N (gBrV A.st (gStL v)) (gStE v g :: t) A.cs (gBook (gEnr A.u (nI N) (gStE v g) 7) A.bs) (upd (gTF A) 9 (nI (gBook (gEnr A.u (nI N) (gStE v g) 7) A.bs).length)) A.st := by rw [hf15]; exact rP_l (gBrV A.st (gStL v)) 5 _ (by decide) (by intro i h1 h2; have h : i = 1 ∨ i = 2 ∨ i = 3 ∨ i = 4 ∨ i = 5 := (by omega); rcases h with rfl | rfl | rfl | rfl | rfl <;> rfl) (hz _ _ h8 (hgb _)) R14
        refine z_aload_n C dX4_grades_251 rfl rfl ?_
        refine z_get eK4 0 0 C dX4_grades_252 rfl rfl q1671 (eSame1 rfl) (by decide) rfl ?_
        refine z_sipush (v := 300) C dX4_grades_255 (by decide) ?_
        refine z_dup2 C dX4_grades_258 rfl rfl ?_
        refine z_iald (m := 300) (v := gCks A) 1 C dX4_grades_259 rfl rfl (by omega) (by decide) (R16.2.2.2.2.1 4 (by decide)) ?_
        refine z_iconst (v := 1) C dX4_grades_260 (by decide) ?_
        refine z_iadd (w := (gCks A) + 1) C dX4_grades_261 rfl ?_
        obtain ⟨f17, hf17⟩ : ∃ q_ : Nat → Int32, q_ = upd f15 300 ((gCks A) + 1) := ⟨_, rfl⟩
        refine z_iast (m := 300) (Γ2 := [eO a 4 [.ref o.sa, .ref o.pa, .ref o.ha, .ref o.xa, .int o.pn, .int o.ru, .ref o.ta, .int o.ty, .int o.sp, .int o.fr, .int o.re, .int o.ca, .int o.os, .int o.od, .ref o.na], eIA E o.sa 311 f17, rs]) 1 C dX4_grades_262 rfl rfl (by omega) (by decide) (by rw [hf17]; rfl) ?_
        have R18 : rP f f17 N (gBrV A.st (gStL v)) (gStE v g :: t) A.cs (gBook (gEnr A.u (nI N) (gStE v g) 7) A.bs) (upd (upd (gTF A) 9 (nI (gBook (gEnr A.u (nI N) (gStE v g) 7) A.bs).length)) 4 (gCks A + 1)) A.st := by rw [hf17]; exact rP_t 4 _ (by decide) (hz _ _ h8 (hgb _)) R16
        refine z_aload_n C dX4_grades_263 rfl rfl ?_
        refine z_iload_n C dX4_grades_264 rfl rfl ?_
        refine z_callV (r := (RX4, TX4, 15)) (As := [.int (nI N)]) (rest := []) (Δ := [rs]) [0, 1] [2] 1 (m_Mleaves hl E a o f f17 N (gBrV A.st (gStL v)) t (gStE v g) A.cs (gBook (gEnr A.u (nI N) (gStE v g) 7) A.bs) (upd (upd (gTF A) 9 (nI (gBook (gEnr A.u (nI N) (gStE v g) 7) A.bs).length)) 4 (gCks A + 1)) A.st (hz _ _ h8 (hgb _)) R18) C dX4_grades_265 rfl rfl (eIn (i := 0) rfl List.mem_cons_self) rfl rfl q1804 q1806 qs39 q67 q1807 (by decide +kernel) rfl (ePm 3 rfl (by decide +kernel)) rfl rfl ⟨Nat.le_of_ble_eq_true rfl, Nat.le_of_ble_eq_true rfl⟩ (Nat.le_trans eS0 (Nat.le_of_ble_eq_true rfl)) ⟨Nat.le_of_ble_eq_true rfl, Nat.le_of_ble_eq_true rfl⟩ (fun v_ Γ_ hp_ => ?_)
        obtain ⟨rfl, f9, rfl, R9, -⟩ := hp_
        show eZ x E _ [eO a 4 [.ref o.sa, .ref o.pa, .ref o.ha, .ref o.xa, .int o.pn, .int o.ru, .ref o.ta, .int o.ty, .int o.sp, .int o.fr, .int o.re, .int o.ca, .int o.os, .int o.od, .ref o.na], eIA E o.sa 311 f9, rs] 268 [some (.ref a), some (.int (nI N)), some (.int (nI (48 * N + 6 * 0))), some (.int (gBar A.st (gStL v) (gStE v g))), some (.int (gGr A.st (gStL v) (gStE v g))), none] [] 0 0
        refine z_iconst (v := 0) C dX4_grades_268 (by decide) ?_
        subst hQ_
        exact z_ret (Γ := [eO a 4 [.ref o.sa, .ref o.pa, .ref o.ha, .ref o.xa, .int o.pn, .int o.ru, .ref o.ta, .int o.ty, .int o.sp, .int o.fr, .int o.re, .int o.ca, .int o.os, .int o.od, .ref o.na], eIA E o.sa 311 f9]) C dX4_grades_269 rfl rfl (Nat.le_of_ble_eq_true rfl) (Nat.le_of_ble_eq_true rfl) ⟨by rw [hst], _, rfl, by rw [hst]; exact rP_to R hok hN4 R9 rfl rfl rfl rfl (gTF_C A (y := (gBrV A.st (gStL v), t)) hx rfl _)⟩
    · refine z_aload_n C dX4_grades_102 rfl rfl ?_
      refine z_get eK4 0 0 C dX4_grades_103 rfl rfl q1671 (eSame1 rfl) (by decide) rfl ?_
      refine z_iload_n C dX4_grades_106 rfl rfl ?_
      refine z_iconst (v := 5) C dX4_grades_107 (by decide) ?_
      refine z_iadd (w := nI (48 * N + 6 * 0 + 5)) C dX4_grades_108 (nI_add (48 * N + 6 * 0) 5) ?_
      refine z_dup2 C dX4_grades_109 rfl rfl ?_
      refine z_iald (m := (48 * N + 6 * 0 + 5)) (v := (gStE v g).t) 1 C dX4_grades_110 rfl rfl (by omega) (by decide) (R4.1.2.2 0 (gStE v g) rfl 5 (by decide)) ?_
      refine z_iconst (v := 1) C dX4_grades_111 (by decide) ?_
      refine z_iadd (w := ((gStE v g).t) + 1) C dX4_grades_112 rfl ?_
      obtain ⟨f5, hf5⟩ : ∃ q_ : Nat → Int32, q_ = upd f3 (48 * N + 6 * 0 + 5) (((gStE v g).t) + 1) := ⟨_, rfl⟩
      refine z_iast (m := (48 * N + 6 * 0 + 5)) (Γ2 := [eO a 4 [.ref o.sa, .ref o.pa, .ref o.ha, .ref o.xa, .int o.pn, .int o.ru, .ref o.ta, .int o.ty, .int o.sp, .int o.fr, .int o.re, .int o.ca, .int o.os, .int o.od, .ref o.na], eIA E o.sa 311 f5, rs]) 1 C dX4_grades_113 rfl rfl (by omega) (by decide) (by rw [hf5]; rfl) ?_
      have R6 : rP f f5 N (gStL v) (gTr (gStE v g) :: t) A.cs A.bs (gTF A) A.st := by rw [hf5]; exact rP_e (gs := gStE v g :: t) 0 (gStE v g) (gTr (gStE v g)) rfl 5 _ (by decide) (by intro i h2; have h : i = 0 ∨ i = 1 ∨ i = 2 ∨ i = 3 ∨ i = 4 ∨ i = 5 := (by omega); rcases h with rfl | rfl | rfl | rfl | rfl | rfl <;> rfl) (hz (gStE v g :: t) _ h8t h10) R4
      refine z_aload_n C dX4_grades_114 rfl rfl ?_
      refine z_get eK4 0 0 C dX4_grades_115 rfl rfl q1671 (eSame1 rfl) (by decide) rfl ?_
      refine z_iload_n C dX4_grades_118 rfl rfl ?_
      refine z_iconst (v := 5) C dX4_grades_119 (by decide) ?_
      refine z_iadd (w := nI (48 * N + 6 * 0 + 5)) C dX4_grades_120 (nI_add (48 * N + 6 * 0) 5) ?_
      refine z_iald (m := (48 * N + 6 * 0 + 5)) (v := (gStE v g).t + 1) 1 C dX4_grades_121 rfl rfl (by omega) (by decide) (R6.1.2.2 0 (gTr (gStE v g)) rfl 5 (by decide)) ?_
      refine z_aload_n C dX4_grades_122 rfl rfl ?_
      refine z_get eK4 0 0 C dX4_grades_123 rfl rfl q1671 (eSame1 rfl) (by decide) rfl ?_
      refine z_sipush (v := 308) C dX4_grades_126 (by decide) ?_
      refine z_iald (m := 308) (v := A.st 1) 1 C dX4_grades_129 rfl rfl (by omega) (by decide) (R6.2.2.2.2.2 1 (by decide)) ?_
      suffices J_ : eZ x E Q_ [eO a 4 [.ref o.sa, .ref o.pa, .ref o.ha, .ref o.xa, .int o.pn, .int o.ru, .ref o.ta, .int o.ty, .int o.sp, .int o.fr, .int o.re, .int o.ca, .int o.os, .int o.od, .ref o.na], eIA E o.sa 311 f5, rs] 138 [some (.ref a), some (.int (nI N)), some (.int (nI (48 * N + 6 * 0))), some (.int (gBar A.st (gStL v) (gStE v g))), some (.int (gGr A.st (gStL v) (gStE v g))), none] [.int (eB (!decide ((gStE v g).t + 1 < A.st 1)))] 0 0 by
        refine z_icmp_lt 137 C dX4_grades_130 (by decide) (fun h_ => ?_) (fun h_ => ?_)
        · refine z_iconst (v := 0) C dX4_grades_137 (by decide) ?_
          refine z_is (w := eB (!decide ((gStE v g).t + 1 < A.st 1))) (by rw [decide_eq_true h_]; rfl) ?_
          exact J_
        · refine z_iconst (v := 1) C dX4_grades_133 (by decide) ?_
          refine z_goto 138 C dX4_grades_134 (by decide) ?_
          refine z_is (w := eB (!decide ((gStE v g).t + 1 < A.st 1))) (by rw [decide_eq_false h_]; rfl) ?_
          exact J_
      refine z_istore (L2 := [some (.ref a), some (.int (nI N)), some (.int (nI (48 * N + 6 * 0))), some (.int (gBar A.st (gStL v) (gStE v g))), some (.int (gGr A.st (gStL v) (gStE v g))), some (.int (eB (!decide ((gStE v g).t + 1 < A.st 1))))]) C dX4_grades_138 (Nat.le_of_ble_eq_true rfl) rfl ?_
      refine z_iload C dX4_grades_140 rfl ?_
      refine z_if_eq_B 164 C dX4_grades_142 (by decide) (fun h3 => ?_) (fun h3 => ?_)
      · have ht := of_decide_eq_true (tn_f h3)
        have hst : gStep A.st (nI N) v (g :: t) A.cs A.bs A.u = (0, gStL v, t ++ [gTr (gStE v g)], A.cs, A.bs, A.u) := by rw [gStep, if_neg (by rw [h2]; decide), if_pos h2, if_pos ht]
        refine z_aload_n C dX4_grades_164 rfl rfl ?_
        refine z_iload_n C dX4_grades_165 rfl rfl ?_
        refine z_callV (r := (RX4, TX4, 15)) (As := [.int (nI N)]) (rest := []) (Δ := [rs]) [0, 1] [2] 1 (m_Mleaves hl E a o f f5 N (gStL v) t (gTr (gStE v g)) A.cs A.bs (gTF A) A.st (hz _ _ h8 h10) R6) C dX4_grades_166 rfl rfl (eIn (i := 0) rfl List.mem_cons_self) rfl rfl q1804 q1806 qs39 q67 q1807 (by decide +kernel) rfl (ePm 3 rfl (by decide +kernel)) rfl rfl ⟨Nat.le_of_ble_eq_true rfl, Nat.le_of_ble_eq_true rfl⟩ (Nat.le_trans eS0 (Nat.le_of_ble_eq_true rfl)) ⟨Nat.le_of_ble_eq_true rfl, Nat.le_of_ble_eq_true rfl⟩ (fun v_ Γ_ hp_ => ?_)
        obtain ⟨rfl, f9, rfl, R9, hq9⟩ := hp_
        show eZ x E _ [eO a 4 [.ref o.sa, .ref o.pa, .ref o.ha, .ref o.xa, .int o.pn, .int o.ru, .ref o.ta, .int o.ty, .int o.sp, .int o.fr, .int o.re, .int o.ca, .int o.os, .int o.od, .ref o.na], eIA E o.sa 311 f9, rs] 169 [some (.ref a), some (.int (nI N)), some (.int (nI (48 * N + 6 * 0))), some (.int (gBar A.st (gStL v) (gStE v g))), some (.int (gGr A.st (gStL v) (gStE v g))), some (.int (eB (!decide ((gStE v g).t + 1 < A.st 1))))] [] 0 0
        refine z_aload_n C dX4_grades_169 rfl rfl ?_
        refine z_get eK4 0 0 C dX4_grades_170 rfl rfl q1671 (eSame1 rfl) (by decide) rfl ?_
        refine z_iload_n C dX4_grades_173 rfl rfl ?_
        refine z_callS (As := [.int (nI N)]) (rest := [.ref o.sa]) (Δ := [eO a 4 [.ref o.sa, .ref o.pa, .ref o.ha, .ref o.xa, .int o.pn, .int o.ru, .ref o.ta, .int o.ty, .int o.sp, .int o.fr, .int o.re, .int o.ca, .int o.os, .int o.od, .ref o.na], eIA E o.sa 311 f9, rs]) [] [0, 1, 2] 1 (m_MlaneAt hl E N) C dX4_grades_174 rfl rfl rfl q1668 q1669 q67 q1670 (by decide +kernel) rfl (ePm 3 rfl (by decide +kernel)) rfl rfl ⟨Nat.le_of_ble_eq_true rfl, Nat.le_of_ble_eq_true rfl⟩ (Nat.le_trans (eSm rfl eS0) (Nat.le_of_ble_eq_true rfl)) ⟨Nat.le_of_ble_eq_true rfl, Nat.le_of_ble_eq_true rfl⟩ (fun v_ Γ_ hp_ => ?_)
        obtain ⟨rfl, rfl⟩ := hp_
        show eZ x E _ [eO a 4 [.ref o.sa, .ref o.pa, .ref o.ha, .ref o.xa, .int o.pn, .int o.ru, .ref o.ta, .int o.ty, .int o.sp, .int o.fr, .int o.re, .int o.ca, .int o.os, .int o.od, .ref o.na], eIA E o.sa 311 f9, rs] 177 [some (.ref a), some (.int (nI N)), some (.int (nI (48 * N + 6 * 0))), some (.int (gBar A.st (gStL v) (gStE v g))), some (.int (gGr A.st (gStL v) (gStE v g))), some (.int (eB (!decide ((gStE v g).t + 1 < A.st 1))))] [.int (nI (192 + 6 * N)), .ref o.sa] 0 0
        refine z_iconst (v := 0) C dX4_grades_177 (by decide) ?_
        refine z_iadd (w := nI (192 + 6 * N)) C dX4_grades_178 (nI_add (192 + 6 * N) 0) ?_
        refine z_dup2 C dX4_grades_179 rfl rfl ?_
        refine z_iald (m := (192 + 6 * N)) (v := nI t.length) 1 C dX4_grades_180 rfl rfl (by omega) (by decide) R9.1.1 ?_
        refine z_iload C dX4_grades_181 rfl ?_
        refine z_if_eq_B 190 C dX4_grades_183 (by decide) (fun h_ => ?_) (fun h_ => absurd h_ (by rw [h3]; decide))
        refine z_iconst (v := 1) C dX4_grades_190 (by decide) ?_
        refine z_iadd (w := nI (t.length + 1)) C dX4_grades_191 (nI_1 _) ?_
        obtain ⟨f7, hf7⟩ : ∃ q_ : Nat → Int32, q_ = upd f9 (192 + 6 * N) (nI (t.length + 1)) := ⟨_, rfl⟩
        refine z_iast (m := (192 + 6 * N)) (Γ2 := [eO a 4 [.ref o.sa, .ref o.pa, .ref o.ha, .ref o.xa, .int o.pn, .int o.ru, .ref o.ta, .int o.ty, .int o.sp, .int o.fr, .int o.re, .int o.ca, .int o.os, .int o.od, .ref o.na], eIA E o.sa 311 f7, rs]) 1 C dX4_grades_192 rfl rfl (by omega) (by decide) (by rw [hf7]; rfl) ?_
        have R8 : rP f f7 N (gStL v) (t ++ [gTr (gStE v g)]) A.cs A.bs (gTF A) A.st := by rw [hf7]; exact rP_app (gTr (gStE v g)) hq9 (by omega) (hz _ _ (by omega) h10) R9
        refine z_iconst (v := 0) C dX4_grades_193 (by decide) ?_
        subst hQ_
        exact z_ret (Γ := [eO a 4 [.ref o.sa, .ref o.pa, .ref o.ha, .ref o.xa, .int o.pn, .int o.ru, .ref o.ta, .int o.ty, .int o.sp, .int o.fr, .int o.re, .int o.ca, .int o.os, .int o.od, .ref o.na], eIA E o.sa 311 f7]) C dX4_grades_194 rfl rfl (Nat.le_of_ble_eq_true rfl) (Nat.le_of_ble_eq_true rfl) ⟨by rw [hst], _, rfl, by rw [hst]; exact rP_to R hok hN4 R8 rfl rfl rfl rfl (gTF_A A (y := (gStL v, t ++ [gTr (gStE v g)])) hx rfl)⟩
      · have ht := of_decide_eq_false (tn_t h3)
        have hst : gStep A.st (nI N) v (g :: t) A.cs A.bs A.u = (0, gStL v, t, A.cs, gBook (gEnr A.u (nI N) (gTr (gStE v g)) 6) A.bs, gDkU A.u) := by rw [gStep, if_neg (by rw [h2]; decide), if_pos h2, if_neg ht]
        refine z_aload_n C dX4_grades_145 rfl rfl ?_
        refine z_iload_n C dX4_grades_146 rfl rfl ?_
        refine z_bipush (v := 6) C dX4_grades_147 (by decide) ?_
        refine z_callV (r := (RX4, TX4, 15)) (As := [.int (nI N), .int 6]) (rest := []) (Δ := [rs]) [0, 1] [2] 2 (m_Menters hl E a o f f5 N (gStL v) t (gTr (gStE v g)) A.cs A.bs (gTF A) A.st (hz _ _ h8 h10) R6 hgo1 rfl 6) C dX4_grades_149 rfl rfl (eIn (i := 0) rfl List.mem_cons_self) rfl rfl q1800 q1802 qs38 q67 q1803 (by decide +kernel) rfl (ePm 3 rfl (by decide +kernel)) rfl rfl ⟨Nat.le_of_ble_eq_true rfl, Nat.le_of_ble_eq_true rfl⟩ (Nat.le_trans eS0 (Nat.le_of_ble_eq_true rfl)) ⟨Nat.le_of_ble_eq_true rfl, Nat.le_of_ble_eq_true rfl⟩ (fun v_ Γ_ hp_ => ?_)
        obtain ⟨rfl, f8, rfl, R8⟩ := hp_
        show eZ x E _ [eO a 4 [.ref o.sa, .ref o.pa, .ref o.ha, .ref o.xa, .int o.pn, .int o.ru, .ref o.ta, .int o.ty, .int o.sp, .int o.fr, .int o.re, .int o.ca, .int o.os, .int o.od, .ref o.na], eIA E o.sa 311 f8, rs] 152 [some (.ref a), some (.int (nI N)), some (.int (nI (48 * N + 6 * 0))), some (.int (gBar A.st (gStL v) (gStE v g))), some (.int (gGr A.st (gStL v) (gStE v g))), some (.int (eB (!decide ((gStE v g).t + 1 < A.st 1))))] [] 0 0
        refine z_aload_n C dX4_grades_152 rfl rfl ?_
        refine z_get eK4 0 0 C dX4_grades_153 rfl rfl q1671 (eSame1 rfl) (by decide) rfl ?_
        refine z_sipush (v := 299) C dX4_grades_156 (by decide) ?_
        refine z_dup2 C dX4_grades_159 rfl rfl ?_
        refine z_iald (m := 299) (v := A.u.dk) 1 C dX4_grades_160 rfl rfl (by omega) (by decide) (R8.2.2.2.2.1 3 (by decide)) ?_
        refine z_iconst (v := 1) C dX4_grades_161 (by decide) ?_
        refine z_iadd (w := A.u.dk + 1) C dX4_grades_162 rfl ?_
        obtain ⟨f9, hf9⟩ : ∃ q_ : Nat → Int32, q_ = upd f8 299 (A.u.dk + 1) := ⟨_, rfl⟩
        refine z_iast (m := 299) (Γ2 := [eO a 4 [.ref o.sa, .ref o.pa, .ref o.ha, .ref o.xa, .int o.pn, .int o.ru, .ref o.ta, .int o.ty, .int o.sp, .int o.fr, .int o.re, .int o.ca, .int o.os, .int o.od, .ref o.na], eIA E o.sa 311 f9, rs]) 1 C dX4_grades_163 rfl rfl (by omega) (by decide) (by rw [hf9]; rfl) ?_
        have R10 : rP f f9 N (gStL v) (gTr (gStE v g) :: t) A.cs (gBook (gEnr A.u (nI N) (gTr (gStE v g)) 6) A.bs) (upd (upd (gTF A) 9 (nI (gBook (gEnr A.u (nI N) (gTr (gStE v g)) 6) A.bs).length)) 3 (A.u.dk + 1)) A.st := by rw [hf9]; exact rP_t 3 _ (by decide) (hz _ _ h8 (hgb _)) R8
        refine z_aload_n C dX4_grades_164 rfl rfl ?_
        refine z_iload_n C dX4_grades_165 rfl rfl ?_
        refine z_callV (r := (RX4, TX4, 15)) (As := [.int (nI N)]) (rest := []) (Δ := [rs]) [0, 1] [2] 1 (m_Mleaves hl E a o f f9 N (gStL v) t (gTr (gStE v g)) A.cs (gBook (gEnr A.u (nI N) (gTr (gStE v g)) 6) A.bs) (upd (upd (gTF A) 9 (nI (gBook (gEnr A.u (nI N) (gTr (gStE v g)) 6) A.bs).length)) 3 (A.u.dk + 1)) A.st (hz _ _ h8 (hgb _)) R10) C dX4_grades_166 rfl rfl (eIn (i := 0) rfl List.mem_cons_self) rfl rfl q1804 q1806 qs39 q67 q1807 (by decide +kernel) rfl (ePm 3 rfl (by decide +kernel)) rfl rfl ⟨Nat.le_of_ble_eq_true rfl, Nat.le_of_ble_eq_true rfl⟩ (Nat.le_trans eS0 (Nat.le_of_ble_eq_true rfl)) ⟨Nat.le_of_ble_eq_true rfl, Nat.le_of_ble_eq_true rfl⟩ (fun v_ Γ_ hp_ => ?_)
        obtain ⟨rfl, f9, rfl, R9, -⟩ := hp_
        show eZ x E _ [eO a 4 [.ref o.sa, .ref o.pa, .ref o.ha, .ref o.xa, .int o.pn, .int o.ru, .ref o.ta, .int o.ty, .int o.sp, .int o.fr, .int o.re, .int o.ca, .int o.os, .int o.od, .ref o.na], eIA E o.sa 311 f9, rs] 169 [some (.ref a), some (.int (nI N)), some (.int (nI (48 * N + 6 * 0))), some (.int (gBar A.st (gStL v) (gStE v g))), some (.int (gGr A.st (gStL v) (gStE v g))), some (.int (eB (!decide ((gStE v g).t + 1 < A.st 1))))] [] 0 0
        refine z_aload_n C dX4_grades_169 rfl rfl ?_
        refine z_get eK4 0 0 C dX4_grades_170 rfl rfl q1671 (eSame1 rfl) (by decide) rfl ?_
        refine z_iload_n C dX4_grades_173 rfl rfl ?_
        refine z_callS (As := [.int (nI N)]) (rest := [.ref o.sa]) (Δ := [eO a 4 [.ref o.sa, .ref o.pa, .ref o.ha, .ref o.xa, .int o.pn, .int o.ru, .ref o.ta, .int o.ty, .int o.sp, .int o.fr, .int o.re, .int o.ca, .int o.os, .int o.od, .ref o.na], eIA E o.sa 311 f9, rs]) [] [0, 1, 2] 1 (m_MlaneAt hl E N) C dX4_grades_174 rfl rfl rfl q1668 q1669 q67 q1670 (by decide +kernel) rfl (ePm 3 rfl (by decide +kernel)) rfl rfl ⟨Nat.le_of_ble_eq_true rfl, Nat.le_of_ble_eq_true rfl⟩ (Nat.le_trans (eSm rfl eS0) (Nat.le_of_ble_eq_true rfl)) ⟨Nat.le_of_ble_eq_true rfl, Nat.le_of_ble_eq_true rfl⟩ (fun v_ Γ_ hp_ => ?_)
        obtain ⟨rfl, rfl⟩ := hp_
        show eZ x E _ [eO a 4 [.ref o.sa, .ref o.pa, .ref o.ha, .ref o.xa, .int o.pn, .int o.ru, .ref o.ta, .int o.ty, .int o.sp, .int o.fr, .int o.re, .int o.ca, .int o.os, .int o.od, .ref o.na], eIA E o.sa 311 f9, rs] 177 [some (.ref a), some (.int (nI N)), some (.int (nI (48 * N + 6 * 0))), some (.int (gBar A.st (gStL v) (gStE v g))), some (.int (gGr A.st (gStL v) (gStE v g))), some (.int (eB (!decide ((gStE v g).t + 1 < A.st 1))))] [.int (nI (192 + 6 * N)), .ref o.sa] 0 0
        refine z_iconst (v := 0) C dX4_grades_177 (by decide) ?_
        refine z_iadd (w := nI (192 + 6 * N)) C dX4_grades_178 (nI_add (192 + 6 * N) 0) ?_
        refine z_dup2 C dX4_grades_179 rfl rfl ?_
        refine z_iald (m := (192 + 6 * N)) (v := nI t.length) 1 C dX4_grades_180 rfl rfl (by omega) (by decide) R9.1.1 ?_
        refine z_iload C dX4_grades_181 rfl ?_
        refine z_if_eq_B 190 C dX4_grades_183 (by decide) (fun h_ => absurd h_ (by rw [h3]; decide)) (fun h_ => ?_)
        refine z_iconst (v := 0) C dX4_grades_186 (by decide) ?_
        refine z_goto 191 C dX4_grades_187 (by decide) ?_
        refine z_iadd (w := nI t.length) C dX4_grades_191 (nI_add t.length 0) ?_
        obtain ⟨f11, hf11⟩ : ∃ q_ : Nat → Int32, q_ = upd f9 (192 + 6 * N) (nI t.length) := ⟨_, rfl⟩
        refine z_iast (m := (192 + 6 * N)) (Γ2 := [eO a 4 [.ref o.sa, .ref o.pa, .ref o.ha, .ref o.xa, .int o.pn, .int o.ru, .ref o.ta, .int o.ty, .int o.sp, .int o.fr, .int o.re, .int o.ca, .int o.os, .int o.od, .ref o.na], eIA E o.sa 311 f11, rs]) 1 C dX4_grades_192 rfl rfl (by omega) (by decide) (by rw [hf11]; rfl) ?_
        have R12 : rP f f11 N (gStL v) t A.cs (gBook (gEnr A.u (nI N) (gTr (gStE v g)) 6) A.bs) (upd (upd (gTF A) 9 (nI (gBook (gEnr A.u (nI N) (gTr (gStE v g)) 6) A.bs).length)) 3 (A.u.dk + 1)) A.st := by rw [hf11]; exact rP_nn (hz _ _ (by omega) (hgb _)) R9
        refine z_iconst (v := 0) C dX4_grades_193 (by decide) ?_
        subst hQ_
        exact z_ret (Γ := [eO a 4 [.ref o.sa, .ref o.pa, .ref o.ha, .ref o.xa, .int o.pn, .int o.ru, .ref o.ta, .int o.ty, .int o.sp, .int o.fr, .int o.re, .int o.ca, .int o.os, .int o.od, .ref o.na], eIA E o.sa 311 f11]) C dX4_grades_194 rfl rfl (Nat.le_of_ble_eq_true rfl) (Nat.le_of_ble_eq_true rfl) ⟨by rw [hst], _, rfl, by rw [hst]; exact rP_to R hok hN4 R12 rfl rfl rfl rfl (gTF_B A (y := (gStL v, t)) hx rfl _)⟩
  · have h0 : gs = [] := by cases gs with | nil => rfl | cons g t => exact absurd h1 (nI_ne0 (by rw [List.length_cons]; omega) (by omega))
    subst h0
    refine z_iconst (v := 0) C dX4_grades_8 (by decide) ?_
    subst hQ_
    exact z_ret (Γ := [eO a 4 [.ref o.sa, .ref o.pa, .ref o.ha, .ref o.xa, .int o.pn, .int o.ru, .ref o.ta, .int o.ty, .int o.sp, .int o.fr, .int o.re, .int o.ca, .int o.os, .int o.od, .ref o.na], eIA E o.sa 311 f]) C dX4_grades_9 rfl rfl (Nat.le_of_ble_eq_true rfl) (Nat.le_of_ble_eq_true rfl) ⟨rfl, f, rfl, by show Rep f (A.ls.set N (v, []), A.cs, A.bs, A.st, A.u); rw [set_same_ hx]; exact R⟩
