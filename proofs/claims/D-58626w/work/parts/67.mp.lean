/-! ===== the model: reading the text ===== -/
set_option maxRecDepth 100000
def gIsAt (tx : List Nat) (p : Nat) (lo hi : Int32) : Bool := match tx[p]? with | none => false | some c => eBt (nI c) lo hi
abbrev Mo.spS (o : Mo) (sp : Int32) : Mo := (o.sa, o.pa, o.ha, o.xa, o.pn, o.ru, o.ta, o.ty, sp, o.fr, o.re, o.ca, o.os, o.od, o.na)
abbrev Mo.odS (o : Mo) (od : Int32) : Mo := (o.sa, o.pa, o.ha, o.xa, o.pn, o.ru, o.ta, o.ty, o.sp, o.fr, o.re, o.ca, o.os, od, o.na)
theorem gIsAt_acc {tx : List Nat} {p sg : Nat} (h126 : ∀ c ∈ tx, 32 ≤ c ∧ c ≤ 126) (hs : sg < 128) : gIsAt tx p (nI sg) (nI sg) = gAcc tx p sg := by
  unfold gIsAt gAcc
  rcases hx : tx[p]? with _ | c
  · exact (decide_eq_false (fun h => by cases h)).symm
  · have hc := h126 c (List.mem_of_getElem? hx)
    show eBt (nI c) (nI sg) (nI sg) = _
    rw [eBtN c sg sg (by omega) (by omega) (by omega)]
    exact decide_eq_decide.mpr ⟨fun h => by rw [show c = sg by omega], fun h => by have := Option.some.inj h; omega⟩
theorem gIsAt_dig {tx : List Nat} {p c : Nat} (hx : tx[p]? = some c) (hc : c ≤ 126) : gIsAt tx p 48 57 = decide (48 ≤ c ∧ c ≤ 57) := by
  unfold gIsAt
  rw [hx]
  exact eBtN c 48 57 (by omega) (by decide) (by decide)

set_option maxHeartbeats 4000000 in
theorem m_MisAt {l : Launch} (hl : l.stackTraces = false) (E : eEn) (a : Nat) (o : Mo) (tx : List Nat) (tf : Nat → Int32) (hT : tR tf o.ty tx) (h126 : ∀ c ∈ tx, 32 ≤ c ∧ c ≤ 126) (p : Nat) (hp : p ≤ tx.length) (lo hi : Int32) : eMet l E yX4_isAt (ws_ yX4_isAt cX4_isAt 3 (some .boolean)) ({ frames := 1, cells := 0, slots := 0, locals := 22 }) [.ref a, .int lo, .int hi] [eO a 4 [.ref o.sa, .ref o.pa, .ref o.ha, .ref o.xa, .int o.pn, .int o.ru, .ref o.ta, .int o.ty, .int (nI p), .int o.fr, .int o.re, .int o.ca, .int o.os, .int o.od, .ref o.na], eIA E o.ta 60 tf] (fun w Γ => w = some (.int (eB (gIsAt tx p lo hi))) ∧ Γ = [eMO a (o.spS (nI p)), eIA E o.ta 60 tf]) := by
  refine eStart (cc := cX4_isAt) (nL := 3) (L := [some (.ref a), some (.int lo), some (.int hi)]) hl (by decide) rfl (List.forall_mem_cons.mpr ⟨rfl, (List.forall_mem_cons.mpr ⟨rfl, (List.forall_mem_cons.mpr ⟨rfl, (fun _ h => absurd h List.not_mem_nil)⟩)⟩)⟩) (Nat.le_of_ble_eq_true rfl) ?_
  intro x rs C
  show eZ x E (eQ x E (fun w Γ => w = some (.int (eB (gIsAt tx p lo hi))) ∧ Γ = [eMO a (o.spS (nI p)), eIA E o.ta 60 tf]) rs) [eO a 4 [.ref o.sa, .ref o.pa, .ref o.ha, .ref o.xa, .int o.pn, .int o.ru, .ref o.ta, .int o.ty, .int (nI p), .int o.fr, .int o.re, .int o.ca, .int o.os, .int o.od, .ref o.na], eIA E o.ta 60 tf, rs] 0 [some (.ref a), some (.int lo), some (.int hi)] [] 0 0
  generalize hQ_ : eQ x E (fun w Γ => w = some (.int (eB (gIsAt tx p lo hi))) ∧ Γ = [eMO a (o.spS (nI p)), eIA E o.ta 60 tf]) rs = Q_
  have ht60 := hT.2.1
  refine z_go (Γ' := [eO a 4 [.ref o.sa, .ref o.pa, .ref o.ha, .ref o.xa, .int o.pn, .int o.ru, .ref o.ta, .int (nI tx.length), .int (nI p), .int o.fr, .int o.re, .int o.ca, .int o.os, .int o.od, .ref o.na], eIA E o.ta 60 tf, rs]) (by rw [hT.1]) ?_
  show eZ x E _ [eO a 4 [.ref o.sa, .ref o.pa, .ref o.ha, .ref o.xa, .int o.pn, .int o.ru, .ref o.ta, .int (nI tx.length), .int (nI p), .int o.fr, .int o.re, .int o.ca, .int o.os, .int o.od, .ref o.na], eIA E o.ta 60 tf, rs] 0 [some (.ref a), some (.int lo), some (.int hi)] [] 0 0
  refine z_aload_n C dX4_isAt_0 rfl rfl ?_
  refine z_get eK4 0 8 C dX4_isAt_1 rfl rfl q1679 (eSame1 rfl) (by decide) rfl ?_
  refine z_aload_n C dX4_isAt_4 rfl rfl ?_
  refine z_get eK4 0 7 C dX4_isAt_5 rfl rfl q1678 (eSame1 rfl) (by decide) rfl ?_
  refine z_icmp_ge 32 C dX4_isAt_8 (by decide) (fun h1 => ?_) (fun h1 => ?_)
  · have hb : gIsAt tx p lo hi = false := by unfold gIsAt; rw [List.getElem?_eq_none ((nI_leI (by omega) (by omega)).mp h1)]
    refine z_iconst (v := 0) C dX4_isAt_32 (by decide) ?_
    refine z_is (w := eB (gIsAt tx p lo hi)) (by rw [hb]; rfl) ?_
    refine z_go (Γ' := [eO a 4 [.ref o.sa, .ref o.pa, .ref o.ha, .ref o.xa, .int o.pn, .int o.ru, .ref o.ta, .int o.ty, .int (nI p), .int o.fr, .int o.re, .int o.ca, .int o.os, .int o.od, .ref o.na], eIA E o.ta 60 tf, rs]) (by rw [← hT.1]) ?_
    show eZ x E _ [eO a 4 [.ref o.sa, .ref o.pa, .ref o.ha, .ref o.xa, .int o.pn, .int o.ru, .ref o.ta, .int o.ty, .int (nI p), .int o.fr, .int o.re, .int o.ca, .int o.os, .int o.od, .ref o.na], eIA E o.ta 60 tf, rs] 33 [some (.ref a), some (.int lo), some (.int hi)] [.int (eB (gIsAt tx p lo hi))] 0 0
    subst hQ_
    exact z_ret (Γ := [eO a 4 [.ref o.sa, .ref o.pa, .ref o.ha, .ref o.xa, .int o.pn, .int o.ru, .ref o.ta, .int o.ty, .int (nI p), .int o.fr, .int o.re, .int o.ca, .int o.os, .int o.od, .ref o.na], eIA E o.ta 60 tf]) C dX4_isAt_33 rfl (eB_nar _) (Nat.le_of_ble_eq_true rfl) (Nat.le_of_ble_eq_true rfl) ⟨rfl, rfl⟩
  · have hlt : p < tx.length := by rcases Nat.lt_or_ge p tx.length with h | h; exact h; exact absurd (nI_le h (by omega)) h1
    obtain ⟨c, hc⟩ : ∃ c, tx[p]? = some c := ⟨_, List.getElem?_eq_getElem hlt⟩
    refine z_aload_n C dX4_isAt_11 rfl rfl ?_
    refine z_get eK4 0 6 C dX4_isAt_12 rfl rfl q1677 (eSame1 rfl) (by decide) rfl ?_
    refine z_aload_n C dX4_isAt_15 rfl rfl ?_
    refine z_get eK4 0 8 C dX4_isAt_16 rfl rfl q1679 (eSame1 rfl) (by decide) rfl ?_
    refine z_iald (m := p) (v := nI c) 1 C dX4_isAt_19 rfl rfl (by omega) (by decide) (hT.2.2 p c hc) ?_
    refine z_iload_n C dX4_isAt_20 rfl rfl ?_
    refine z_iload_n C dX4_isAt_21 rfl rfl ?_
    refine z_callS (As := [.int (nI c), .int lo, .int hi]) (rest := []) (Δ := [eO a 4 [.ref o.sa, .ref o.pa, .ref o.ha, .ref o.xa, .int o.pn, .int o.ru, .ref o.ta, .int (nI tx.length), .int (nI p), .int o.fr, .int o.re, .int o.ca, .int o.os, .int o.od, .ref o.na], eIA E o.ta 60 tf, rs]) [] [0, 1, 2] 3 (m_Min hl E (nI c) lo hi) C dX4_isAt_22 rfl rfl rfl q1724 q1725 q67 q1726 (by decide +kernel) rfl (ePm 3 rfl (by decide +kernel)) rfl rfl ⟨Nat.le_of_ble_eq_true rfl, Nat.le_of_ble_eq_true rfl⟩ (Nat.le_trans eS0 (Nat.le_of_ble_eq_true rfl)) ⟨Nat.le_of_ble_eq_true rfl, Nat.le_of_ble_eq_true rfl⟩ (fun v_ Γ_ hp_ => ?_)
    obtain ⟨rfl, rfl⟩ := hp_
    show eZ x E _ [eO a 4 [.ref o.sa, .ref o.pa, .ref o.ha, .ref o.xa, .int o.pn, .int o.ru, .ref o.ta, .int (nI tx.length), .int (nI p), .int o.fr, .int o.re, .int o.ca, .int o.os, .int o.od, .ref o.na], eIA E o.ta 60 tf, rs] 25 [some (.ref a), some (.int lo), some (.int hi)] [.int (eB (eBt (nI c) lo hi))] 0 0
    refine z_if_eq_B 32 C dX4_isAt_25 (by decide) (fun h2 => ?_) (fun h2 => ?_)
    · have hb : gIsAt tx p lo hi = false := by unfold gIsAt; rw [hc]; exact h2
      refine z_iconst (v := 0) C dX4_isAt_32 (by decide) ?_
      refine z_is (w := eB (gIsAt tx p lo hi)) (by rw [hb]; rfl) ?_
      refine z_go (Γ' := [eO a 4 [.ref o.sa, .ref o.pa, .ref o.ha, .ref o.xa, .int o.pn, .int o.ru, .ref o.ta, .int o.ty, .int (nI p), .int o.fr, .int o.re, .int o.ca, .int o.os, .int o.od, .ref o.na], eIA E o.ta 60 tf, rs]) (by rw [← hT.1]) ?_
      show eZ x E _ [eO a 4 [.ref o.sa, .ref o.pa, .ref o.ha, .ref o.xa, .int o.pn, .int o.ru, .ref o.ta, .int o.ty, .int (nI p), .int o.fr, .int o.re, .int o.ca, .int o.os, .int o.od, .ref o.na], eIA E o.ta 60 tf, rs] 33 [some (.ref a), some (.int lo), some (.int hi)] [.int (eB (gIsAt tx p lo hi))] 0 0
      subst hQ_
      exact z_ret (Γ := [eO a 4 [.ref o.sa, .ref o.pa, .ref o.ha, .ref o.xa, .int o.pn, .int o.ru, .ref o.ta, .int o.ty, .int (nI p), .int o.fr, .int o.re, .int o.ca, .int o.os, .int o.od, .ref o.na], eIA E o.ta 60 tf]) C dX4_isAt_33 rfl (eB_nar _) (Nat.le_of_ble_eq_true rfl) (Nat.le_of_ble_eq_true rfl) ⟨rfl, rfl⟩
    · have hb : gIsAt tx p lo hi = true := by unfold gIsAt; rw [hc]; exact h2
      refine z_iconst (v := 1) C dX4_isAt_28 (by decide) ?_
      refine z_goto 33 C dX4_isAt_29 (by decide) ?_
      refine z_is (w := eB (gIsAt tx p lo hi)) (by rw [hb]; rfl) ?_
      refine z_go (Γ' := [eO a 4 [.ref o.sa, .ref o.pa, .ref o.ha, .ref o.xa, .int o.pn, .int o.ru, .ref o.ta, .int o.ty, .int (nI p), .int o.fr, .int o.re, .int o.ca, .int o.os, .int o.od, .ref o.na], eIA E o.ta 60 tf, rs]) (by rw [← hT.1]) ?_
      show eZ x E _ [eO a 4 [.ref o.sa, .ref o.pa, .ref o.ha, .ref o.xa, .int o.pn, .int o.ru, .ref o.ta, .int o.ty, .int (nI p), .int o.fr, .int o.re, .int o.ca, .int o.os, .int o.od, .ref o.na], eIA E o.ta 60 tf, rs] 33 [some (.ref a), some (.int lo), some (.int hi)] [.int (eB (gIsAt tx p lo hi))] 0 0
      subst hQ_
      exact z_ret (Γ := [eO a 4 [.ref o.sa, .ref o.pa, .ref o.ha, .ref o.xa, .int o.pn, .int o.ru, .ref o.ta, .int o.ty, .int (nI p), .int o.fr, .int o.re, .int o.ca, .int o.os, .int o.od, .ref o.na], eIA E o.ta 60 tf]) C dX4_isAt_33 rfl (eB_nar _) (Nat.le_of_ble_eq_true rfl) (Nat.le_of_ble_eq_true rfl) ⟨rfl, rfl⟩

set_option maxHeartbeats 4000000 in
theorem m_Msign {l : Launch} (hl : l.stackTraces = false) (E : eEn) (a : Nat) (o : Mo) (tx : List Nat) (tf : Nat → Int32) (hT : tR tf o.ty tx) (h126 : ∀ c ∈ tx, 32 ≤ c ∧ c ≤ 126) (p : Nat) (hp : p ≤ tx.length) (sg : Nat) (hsg : sg < 128) : eMet l E yX4_sign (ws_ yX4_sign cX4_sign 3 (some .boolean)) ({ frames := 2, cells := 0, slots := 0, locals := 44 }) [.ref a, .int (nI sg)] [eO a 4 [.ref o.sa, .ref o.pa, .ref o.ha, .ref o.xa, .int o.pn, .int o.ru, .ref o.ta, .int o.ty, .int (nI p), .int o.fr, .int o.re, .int o.ca, .int o.os, .int o.od, .ref o.na], eIA E o.ta 60 tf] (fun w Γ => w = some (.int (eB (gAcc tx p sg))) ∧ Γ = [eMO a (o.spS (nI (p + (if gAcc tx p sg = true then 1 else 0)))), eIA E o.ta 60 tf]) := by
  refine eStart (cc := cX4_sign) (nL := 3) (L := [some (.ref a), some (.int (nI sg)), none]) hl (by decide) rfl (List.forall_mem_cons.mpr ⟨rfl, (List.forall_mem_cons.mpr ⟨rfl, (fun _ h => absurd h List.not_mem_nil)⟩)⟩) (Nat.le_of_ble_eq_true rfl) ?_
  intro x rs C
  show eZ x E (eQ x E (fun w Γ => w = some (.int (eB (gAcc tx p sg))) ∧ Γ = [eMO a (o.spS (nI (p + (if gAcc tx p sg = true then 1 else 0)))), eIA E o.ta 60 tf]) rs) [eO a 4 [.ref o.sa, .ref o.pa, .ref o.ha, .ref o.xa, .int o.pn, .int o.ru, .ref o.ta, .int o.ty, .int (nI p), .int o.fr, .int o.re, .int o.ca, .int o.os, .int o.od, .ref o.na], eIA E o.ta 60 tf, rs] 0 [some (.ref a), some (.int (nI sg)), none] [] 0 0
  generalize hQ_ : eQ x E (fun w Γ => w = some (.int (eB (gAcc tx p sg))) ∧ Γ = [eMO a (o.spS (nI (p + (if gAcc tx p sg = true then 1 else 0)))), eIA E o.ta 60 tf]) rs = Q_
  refine z_aload_n C dX4_sign_0 rfl rfl ?_
  refine z_iload_n C dX4_sign_1 rfl rfl ?_
  refine z_iload_n C dX4_sign_2 rfl rfl ?_
  refine z_callV (r := (RX4, TX4, 15)) (As := [.int (nI sg), .int (nI sg)]) (rest := []) (Δ := [rs]) [0, 1] [2] 2 (m_MisAt hl E a o tx tf hT h126 p hp (nI sg) (nI sg)) C dX4_sign_3 rfl rfl (eIn (i := 0) rfl List.mem_cons_self) rfl rfl q1906 q1908 qs44 q67 q1909 (by decide +kernel) rfl (ePm 3 rfl (by decide +kernel)) rfl rfl ⟨Nat.le_of_ble_eq_true rfl, Nat.le_of_ble_eq_true rfl⟩ (Nat.le_trans eS0 (Nat.le_of_ble_eq_true rfl)) ⟨Nat.le_of_ble_eq_true rfl, Nat.le_of_ble_eq_true rfl⟩ (fun v_ Γ_ hp_ => ?_)
  obtain ⟨rfl, rfl⟩ := hp_
  show eZ x E _ [eO a 4 [.ref o.sa, .ref o.pa, .ref o.ha, .ref o.xa, .int o.pn, .int o.ru, .ref o.ta, .int o.ty, .int (nI p), .int o.fr, .int o.re, .int o.ca, .int o.os, .int o.od, .ref o.na], eIA E o.ta 60 tf, rs] 6 [some (.ref a), some (.int (nI sg)), none] [.int (eB (gIsAt tx p (nI sg) (nI sg)))] 0 0
  rw [gIsAt_acc h126 hsg]
  show eZ x E _ [eO a 4 [.ref o.sa, .ref o.pa, .ref o.ha, .ref o.xa, .int o.pn, .int o.ru, .ref o.ta, .int o.ty, .int (nI p), .int o.fr, .int o.re, .int o.ca, .int o.os, .int o.od, .ref o.na], eIA E o.ta 60 tf, rs] 6 [some (.ref a), some (.int (nI sg)), none] [.int (eB (gAcc tx p sg))] 0 0
  refine z_istore_n (L2 := [some (.ref a), some (.int (nI sg)), some (.int (eB (gAcc tx p sg)))]) C dX4_sign_6 rfl (Nat.le_of_ble_eq_true rfl) rfl ?_
  refine z_aload_n C dX4_sign_7 rfl rfl ?_
  refine z_dup C dX4_sign_8 rfl ?_
  refine z_get eK4 0 8 C dX4_sign_9 rfl rfl q1679 (eSame1 rfl) (by decide) rfl ?_
  refine z_iload_n C dX4_sign_12 rfl rfl ?_
  suffices J_ : eZ x E Q_ [eO a 4 [.ref o.sa, .ref o.pa, .ref o.ha, .ref o.xa, .int o.pn, .int o.ru, .ref o.ta, .int o.ty, .int (nI p), .int o.fr, .int o.re, .int o.ca, .int o.os, .int o.od, .ref o.na], eIA E o.ta 60 tf, rs] 21 [some (.ref a), some (.int (nI sg)), some (.int (eB (gAcc tx p sg)))] [.int (nI (if gAcc tx p sg = true then 1 else 0)), .int (nI p), .ref a] 0 0 by
    refine z_if_eq_B 20 C dX4_sign_13 (by decide) (fun h_ => ?_) (fun h_ => ?_)
    · refine z_iconst (v := 0) C dX4_sign_20 (by decide) ?_
      refine z_is (w := nI (if gAcc tx p sg = true then 1 else 0)) (by rw [if_neg (by rw [h_]; decide)]; rfl) ?_
      exact J_
    · refine z_iconst (v := 1) C dX4_sign_16 (by decide) ?_
      refine z_goto 21 C dX4_sign_17 (by decide) ?_
      refine z_is (w := nI (if gAcc tx p sg = true then 1 else 0)) (by rw [if_pos h_]; rfl) ?_
      exact J_
  refine z_iadd (w := nI (p + (if gAcc tx p sg = true then 1 else 0))) C dX4_sign_21 (nI_add p (if gAcc tx p sg = true then 1 else 0)) ?_
  refine z_put eK4 0 8 (Γ2 := [eO a 4 [.ref o.sa, .ref o.pa, .ref o.ha, .ref o.xa, .int o.pn, .int o.ru, .ref o.ta, .int o.ty, .int (nI (p + (if gAcc tx p sg = true then 1 else 0))), .int o.fr, .int o.re, .int o.ca, .int o.os, .int o.od, .ref o.na], eIA E o.ta 60 tf, rs]) C dX4_sign_22 rfl rfl q1679 (eSame1 rfl) (by decide) rfl rfl rfl rfl (Nat.le_of_ble_eq_true rfl) rfl ?_
  refine z_iload_n C dX4_sign_25 rfl rfl ?_
  subst hQ_
  exact z_ret (Γ := [eO a 4 [.ref o.sa, .ref o.pa, .ref o.ha, .ref o.xa, .int o.pn, .int o.ru, .ref o.ta, .int o.ty, .int (nI (p + (if gAcc tx p sg = true then 1 else 0))), .int o.fr, .int o.re, .int o.ca, .int o.os, .int o.od, .ref o.na], eIA E o.ta 60 tf]) C dX4_sign_26 rfl (eB_nar _) (Nat.le_of_ble_eq_true rfl) (Nat.le_of_ble_eq_true rfl) ⟨rfl, rfl⟩

set_option maxHeartbeats 4000000 in
theorem m_Mnumbered {l : Launch} (hl : l.stackTraces = false) (E : eEn) (a : Nat) (o : Mo) (tx : List Nat) (tf : Nat → Int32) (hT : tR tf o.ty tx) (h126 : ∀ c ∈ tx, 32 ≤ c ∧ c ≤ 126) (p : Nat) (hp : p ≤ tx.length) (nf : Nat → Int32) (wh : Nat) (hw : wh < 3) : eMet l E yX4_numbered (ws_ yX4_numbered cX4_numbered 3 (some .boolean)) ({ frames := 2, cells := 0, slots := 0, locals := 44 }) [.ref a, .int (nI wh)] [eO a 4 [.ref o.sa, .ref o.pa, .ref o.ha, .ref o.xa, .int o.pn, .int o.ru, .ref o.ta, .int o.ty, .int (nI p), .int o.fr, .int o.re, .int o.ca, .int o.os, .int o.od, .ref o.na], eIA E o.ta 60 tf, eIA E o.na 3 nf] (fun w Γ => w = some (.int (eB (decide (p < (gRd tx 3 p 0).1)))) ∧ Γ = [eMO a (o.spS (nI (gRd tx 3 p 0).1)), eIA E o.ta 60 tf, eIA E o.na 3 (upd nf wh (gRd tx 3 p 0).2)]) := by
  refine eStart (cc := cX4_numbered) (nL := 3) (L := [some (.ref a), some (.int (nI wh)), none]) hl (by decide) rfl (List.forall_mem_cons.mpr ⟨rfl, (List.forall_mem_cons.mpr ⟨rfl, (fun _ h => absurd h List.not_mem_nil)⟩)⟩) (Nat.le_of_ble_eq_true rfl) ?_
  intro x rs C
  show eZ x E (eQ x E (fun w Γ => w = some (.int (eB (decide (p < (gRd tx 3 p 0).1)))) ∧ Γ = [eMO a (o.spS (nI (gRd tx 3 p 0).1)), eIA E o.ta 60 tf, eIA E o.na 3 (upd nf wh (gRd tx 3 p 0).2)]) rs) [eO a 4 [.ref o.sa, .ref o.pa, .ref o.ha, .ref o.xa, .int o.pn, .int o.ru, .ref o.ta, .int o.ty, .int (nI p), .int o.fr, .int o.re, .int o.ca, .int o.os, .int o.od, .ref o.na], eIA E o.ta 60 tf, eIA E o.na 3 nf, rs] 0 [some (.ref a), some (.int (nI wh)), none] [] 0 0
  generalize hQ_ : eQ x E (fun w Γ => w = some (.int (eB (decide (p < (gRd tx 3 p 0).1)))) ∧ Γ = [eMO a (o.spS (nI (gRd tx 3 p 0).1)), eIA E o.ta 60 tf, eIA E o.na 3 (upd nf wh (gRd tx 3 p 0).2)]) rs = Q_
  have ht60 := hT.2.1
  refine z_aload_n C dX4_numbered_0 rfl rfl ?_
  refine z_get eK4 0 8 C dX4_numbered_1 rfl rfl q1679 (eSame1 rfl) (by decide) rfl ?_
  refine z_istore_n (L2 := [some (.ref a), some (.int (nI wh)), some (.int (nI p))]) C dX4_numbered_4 rfl (Nat.le_of_ble_eq_true rfl) rfl ?_
  refine z_aload_n C dX4_numbered_5 rfl rfl ?_
  refine z_get eK4 0 14 C dX4_numbered_6 rfl rfl q1685 (eSame1 rfl) (by decide) rfl ?_
  refine z_iload_n C dX4_numbered_9 rfl rfl ?_
  refine z_iconst (v := 0) C dX4_numbered_10 (by decide) ?_
  refine z_iast (m := wh) (Γ2 := [eO a 4 [.ref o.sa, .ref o.pa, .ref o.ha, .ref o.xa, .int o.pn, .int o.ru, .ref o.ta, .int o.ty, .int (nI p), .int o.fr, .int o.re, .int o.ca, .int o.os, .int o.od, .ref o.na], eIA E o.ta 60 tf, eIA E o.na 3 (upd nf wh 0), rs]) 2 C dX4_numbered_11 rfl rfl (by omega) (by decide) rfl ?_
  have F : ∀ (p2 : Nat) (x_ : Int32), p ≤ p2 → p2 ≤ tx.length → (p2, x_) = gRd tx 3 p 0 → eZ x E Q_ [eO a 4 [.ref o.sa, .ref o.pa, .ref o.ha, .ref o.xa, .int o.pn, .int o.ru, .ref o.ta, .int o.ty, .int (nI p2), .int o.fr, .int o.re, .int o.ca, .int o.os, .int o.od, .ref o.na], eIA E o.ta 60 tf, eIA E o.na 3 (upd nf wh x_), rs] 74 [some (.ref a), some (.int (nI wh)), some (.int (nI p))] [] 0 0 := by
    intro p2 x_ hd hd3 hR
    refine z_aload_n C dX4_numbered_74 rfl rfl ?_
    refine z_get eK4 0 8 C dX4_numbered_75 rfl rfl q1679 (eSame1 rfl) (by decide) rfl ?_
    refine z_iload_n C dX4_numbered_78 rfl rfl ?_
    suffices J_ : eZ x E Q_ [eO a 4 [.ref o.sa, .ref o.pa, .ref o.ha, .ref o.xa, .int o.pn, .int o.ru, .ref o.ta, .int o.ty, .int (nI p2), .int o.fr, .int o.re, .int o.ca, .int o.os, .int o.od, .ref o.na], eIA E o.ta 60 tf, eIA E o.na 3 (upd nf wh x_), rs] 87 [some (.ref a), some (.int (nI wh)), some (.int (nI p))] [.int (eB (decide (p < (gRd tx 3 p 0).1)))] 0 0 by
      refine z_icmp_le 86 C dX4_numbered_79 (by decide) (fun h_ => ?_) (fun h_ => ?_)
      · refine z_iconst (v := 0) C dX4_numbered_86 (by decide) ?_
        refine z_is (w := eB (decide (p < (gRd tx 3 p 0).1))) (by rw [decide_eq_false (by rw [← hR]; show ¬ p < p2; intro h; exact absurd h_ (Int32.not_le.mpr (nI_lt h (by omega))))]; rfl) ?_
        exact J_
      · refine z_iconst (v := 1) C dX4_numbered_82 (by decide) ?_
        refine z_goto 87 C dX4_numbered_83 (by decide) ?_
        refine z_is (w := eB (decide (p < (gRd tx 3 p 0).1))) (by rw [decide_eq_true (by rw [← hR]; show p < p2; rcases Nat.lt_or_ge p p2 with h | h; exact h; exact absurd (nI_le h (by omega)) h_)]; rfl) ?_
        exact J_
    subst hQ_
    exact z_ret (Γ := [eO a 4 [.ref o.sa, .ref o.pa, .ref o.ha, .ref o.xa, .int o.pn, .int o.ru, .ref o.ta, .int o.ty, .int (nI p2), .int o.fr, .int o.re, .int o.ca, .int o.os, .int o.od, .ref o.na], eIA E o.ta 60 tf, eIA E o.na 3 (upd nf wh x_)]) C dX4_numbered_87 rfl (eB_nar _) (Nat.le_of_ble_eq_true rfl) (Nat.le_of_ble_eq_true rfl) ⟨rfl, by rw [← hR]⟩
  have K : ∀ (k p2 : Nat) (x_ : Int32), p2 + k = p + 3 → p ≤ p2 → p2 ≤ tx.length → gRd tx k p2 x_ = gRd tx 3 p 0 → eZ x E Q_ [eO a 4 [.ref o.sa, .ref o.pa, .ref o.ha, .ref o.xa, .int o.pn, .int o.ru, .ref o.ta, .int o.ty, .int (nI p2), .int o.fr, .int o.re, .int o.ca, .int o.os, .int o.od, .ref o.na], eIA E o.ta 60 tf, eIA E o.na 3 (upd nf wh x_), rs] 12 [some (.ref a), some (.int (nI wh)), some (.int (nI p))] [] 0 0 := by
    intro k
    induction k with
    | zero =>
        intro p2 x_ hk hpp hp2 hR
        refine z_aload_n C dX4_numbered_12 rfl rfl ?_
        refine z_bipush (v := 48) C dX4_numbered_13 (by decide) ?_
        refine z_bipush (v := 57) C dX4_numbered_15 (by decide) ?_
        refine z_callV (r := (RX4, TX4, 15)) (As := [.int 48, .int 57]) (rest := []) (Δ := [eIA E o.na 3 (upd nf wh x_), rs]) [0, 1] [2, 3] 2 (m_MisAt hl E a o tx tf hT h126 p2 hp2 48 57) C dX4_numbered_17 rfl rfl (eIn (i := 0) rfl List.mem_cons_self) rfl rfl q1906 q1908 qs44 q67 q1909 (by decide +kernel) rfl (ePm 4 rfl (by decide +kernel)) rfl rfl ⟨Nat.le_of_ble_eq_true rfl, Nat.le_of_ble_eq_true rfl⟩ (Nat.le_trans eS0 (Nat.le_of_ble_eq_true rfl)) ⟨Nat.le_of_ble_eq_true rfl, Nat.le_of_ble_eq_true rfl⟩ (fun v_ Γ_ hp_ => ?_)
        obtain ⟨rfl, rfl⟩ := hp_
        show eZ x E _ [eO a 4 [.ref o.sa, .ref o.pa, .ref o.ha, .ref o.xa, .int o.pn, .int o.ru, .ref o.ta, .int o.ty, .int (nI p2), .int o.fr, .int o.re, .int o.ca, .int o.os, .int o.od, .ref o.na], eIA E o.ta 60 tf, eIA E o.na 3 (upd nf wh x_), rs] 20 [some (.ref a), some (.int (nI wh)), some (.int (nI p))] [.int (eB (gIsAt tx p2 48 57))] 0 0
        refine z_if_eq_B 74 C dX4_numbered_20 (by decide) (fun h1 => ?_) (fun h1 => ?_)
        · exact F p2 x_ hpp hp2 hR
        · refine z_aload_n C dX4_numbered_23 rfl rfl ?_
          refine z_get eK4 0 8 C dX4_numbered_24 rfl rfl q1679 (eSame1 rfl) (by decide) rfl ?_
          refine z_iload_n C dX4_numbered_27 rfl rfl ?_
          refine z_isub (w := nI (p2 - p)) C dX4_numbered_28 (by rw [show p2 = (p2 - p) + p by omega, show p2 - p + p - p = p2 - p by omega]; exact nI_sb_ _ _) ?_
          refine z_iconst (v := 3) C dX4_numbered_29 (by decide) ?_
          refine z_icmp_ge 74 C dX4_numbered_30 (by decide) (fun h_ => ?_) (fun h_ => absurd h_ (absurd (by rw [show p2 - p = 3 by omega]; decide) h_))
          exact F p2 x_ hpp hp2 hR
    | succ k ih =>
        intro p2 x_ hk hpp hp2 hR
        refine z_aload_n C dX4_numbered_12 rfl rfl ?_
        refine z_bipush (v := 48) C dX4_numbered_13 (by decide) ?_
        refine z_bipush (v := 57) C dX4_numbered_15 (by decide) ?_
        refine z_callV (r := (RX4, TX4, 15)) (As := [.int 48, .int 57]) (rest := []) (Δ := [eIA E o.na 3 (upd nf wh x_), rs]) [0, 1] [2, 3] 2 (m_MisAt hl E a o tx tf hT h126 p2 hp2 48 57) C dX4_numbered_17 rfl rfl (eIn (i := 0) rfl List.mem_cons_self) rfl rfl q1906 q1908 qs44 q67 q1909 (by decide +kernel) rfl (ePm 4 rfl (by decide +kernel)) rfl rfl ⟨Nat.le_of_ble_eq_true rfl, Nat.le_of_ble_eq_true rfl⟩ (Nat.le_trans eS0 (Nat.le_of_ble_eq_true rfl)) ⟨Nat.le_of_ble_eq_true rfl, Nat.le_of_ble_eq_true rfl⟩ (fun v_ Γ_ hp_ => ?_)
        obtain ⟨rfl, rfl⟩ := hp_
        show eZ x E _ [eO a 4 [.ref o.sa, .ref o.pa, .ref o.ha, .ref o.xa, .int o.pn, .int o.ru, .ref o.ta, .int o.ty, .int (nI p2), .int o.fr, .int o.re, .int o.ca, .int o.os, .int o.od, .ref o.na], eIA E o.ta 60 tf, eIA E o.na 3 (upd nf wh x_), rs] 20 [some (.ref a), some (.int (nI wh)), some (.int (nI p))] [.int (eB (gIsAt tx p2 48 57))] 0 0
        refine z_if_eq_B 74 C dX4_numbered_20 (by decide) (fun h1 => ?_) (fun h1 => ?_)
        · exact F p2 x_ hpp hp2 (by rw [← hR, gRd]; unfold gIsAt at h1; rcases hx : tx[p2]? with _ | c; rfl; rw [hx] at h1; have hc6 := h126 c (List.mem_of_getElem? hx); show _ = if 48 ≤ c ∧ c ≤ 57 then _ else _; rw [if_neg (by have h9 : eBt (nI c) (nI 48) (nI 57) = false := h1; rw [eBtN c 48 57 (by omega) (by decide) (by decide)] at h9; exact of_decide_eq_false h9)])
        · obtain ⟨c, hc⟩ : ∃ c, tx[p2]? = some c := by
            rcases hx : tx[p2]? with _ | c
            · unfold gIsAt at h1; rw [hx] at h1; cases h1
            · exact ⟨c, rfl⟩
          have hlt : p2 < tx.length := (List.getElem?_eq_some_iff.mp hc).1
          have hc6 := h126 c (List.mem_of_getElem? hc)
          have hd := of_decide_eq_true ((gIsAt_dig hc hc6.2).symm.trans h1)
          refine z_aload_n C dX4_numbered_23 rfl rfl ?_
          refine z_get eK4 0 8 C dX4_numbered_24 rfl rfl q1679 (eSame1 rfl) (by decide) rfl ?_
          refine z_iload_n C dX4_numbered_27 rfl rfl ?_
          refine z_isub (w := nI (p2 - p)) C dX4_numbered_28 (by rw [show p2 = (p2 - p) + p by omega, show p2 - p + p - p = p2 - p by omega]; exact nI_sb_ _ _) ?_
          refine z_iconst (v := 3) C dX4_numbered_29 (by decide) ?_
          refine z_icmp_ge 74 C dX4_numbered_30 (by decide) (fun h_ => absurd h_ (nI_ge (a := p2 - p) (b := 3) (by omega) (by decide))) (fun h_ => ?_)
          refine z_aload_n C dX4_numbered_33 rfl rfl ?_
          refine z_get eK4 0 14 C dX4_numbered_34 rfl rfl q1685 (eSame1 rfl) (by decide) rfl ?_
          refine z_iload_n C dX4_numbered_37 rfl rfl ?_
          refine z_bipush (v := 10) C dX4_numbered_38 (by decide) ?_
          refine z_aload_n C dX4_numbered_40 rfl rfl ?_
          refine z_get eK4 0 14 C dX4_numbered_41 rfl rfl q1685 (eSame1 rfl) (by decide) rfl ?_
          refine z_iload_n C dX4_numbered_44 rfl rfl ?_
          refine z_iald (m := wh) (v := x_) 2 C dX4_numbered_45 rfl rfl (by omega) (by decide) (upd_self_ _ _ _) ?_
          refine z_imul (w := 10 * x_) C dX4_numbered_46 rfl ?_
          refine z_aload_n C dX4_numbered_47 rfl rfl ?_
          refine z_get eK4 0 6 C dX4_numbered_48 rfl rfl q1677 (eSame1 rfl) (by decide) rfl ?_
          refine z_aload_n C dX4_numbered_51 rfl rfl ?_
          refine z_get eK4 0 8 C dX4_numbered_52 rfl rfl q1679 (eSame1 rfl) (by decide) rfl ?_
          refine z_iald (m := p2) (v := nI c) 1 C dX4_numbered_55 rfl rfl (by omega) (by decide) (hT.2.2 p2 c hc) ?_
          refine z_iadd (w := (10 * x_) + (nI c)) C dX4_numbered_56 rfl ?_
          refine z_bipush (v := 48) C dX4_numbered_57 (by decide) ?_
          refine z_isub (w := ((10 * x_) + (nI c)) - 48) C dX4_numbered_59 rfl ?_
          refine z_iast (m := wh) (Γ2 := [eO a 4 [.ref o.sa, .ref o.pa, .ref o.ha, .ref o.xa, .int o.pn, .int o.ru, .ref o.ta, .int o.ty, .int (nI p2), .int o.fr, .int o.re, .int o.ca, .int o.os, .int o.od, .ref o.na], eIA E o.ta 60 tf, eIA E o.na 3 (upd nf wh (10 * x_ + nI c - 48)), rs]) 2 C dX4_numbered_60 rfl rfl (by omega) (by decide) (by rw [upd_upd_]; rfl) ?_
          refine z_aload_n C dX4_numbered_61 rfl rfl ?_
          refine z_dup C dX4_numbered_62 rfl ?_
          refine z_get eK4 0 8 C dX4_numbered_63 rfl rfl q1679 (eSame1 rfl) (by decide) rfl ?_
          refine z_iconst (v := 1) C dX4_numbered_66 (by decide) ?_
          refine z_iadd (w := nI (p2 + 1)) C dX4_numbered_67 (nI_add p2 1) ?_
          refine z_put eK4 0 8 (Γ2 := [eO a 4 [.ref o.sa, .ref o.pa, .ref o.ha, .ref o.xa, .int o.pn, .int o.ru, .ref o.ta, .int o.ty, .int (nI (p2 + 1)), .int o.fr, .int o.re, .int o.ca, .int o.os, .int o.od, .ref o.na], eIA E o.ta 60 tf, eIA E o.na 3 (upd nf wh (10 * x_ + nI c - 48)), rs]) C dX4_numbered_68 rfl rfl q1679 (eSame1 rfl) (by decide) rfl rfl rfl rfl (Nat.le_of_ble_eq_true rfl) rfl ?_
          refine z_goto 12 C dX4_numbered_71 (by decide) ?_
          exact ih (p2 + 1) _ (by omega) (by omega) hlt (by rw [← hR, gRd_digit hc hd])
  exact K 3 p 0 rfl (Nat.le_refl _) hp rfl

set_option maxHeartbeats 4000000 in
theorem m_MnumOf {l : Launch} (hl : l.stackTraces = false) (E : eEn) (k : Nat) (hk : k < 128) : eMet l E yX4_numbersOf (ws_ yX4_numbersOf cX4_numbersOf 1 (some .int)) ({ frames := 0, cells := 0, slots := 0, locals := 0 }) [.int (nI k)] [] (fun w Γ => w = some (.int (nI (gW k))) ∧ Γ = []) := by
  refine eStart (cc := cX4_numbersOf) (nL := 1) (L := [some (.int (nI k))]) hl (by decide) rfl (List.forall_mem_cons.mpr ⟨rfl, (fun _ h => absurd h List.not_mem_nil)⟩) (Nat.le_of_ble_eq_true rfl) ?_
  intro x rs C
  show eZ x E (eQ x E (fun w Γ => w = some (.int (nI (gW k))) ∧ Γ = []) rs) [rs] 0 [some (.int (nI k))] [] 0 0
  generalize hQ_ : eQ x E (fun w Γ => w = some (.int (nI (gW k))) ∧ Γ = []) rs = Q_
  refine z_iload_n C dX4_numbersOf_0 rfl rfl ?_
  by_cases hr : 99 ≤ k ∧ k ≤ 116
  · have h18 : k = 99 ∨ k = 100 ∨ k = 101 ∨ k = 102 ∨ k = 103 ∨ k = 104 ∨ k = 105 ∨ k = 106 ∨ k = 107 ∨ k = 108 ∨ k = 109 ∨ k = 110 ∨ k = 111 ∨ k = 112 ∨ k = 113 ∨ k = 114 ∨ k = 115 ∨ k = 116 := by omega
    rcases h18 with rfl | rfl | rfl | rfl | rfl | rfl | rfl | rfl | rfl | rfl | rfl | rfl | rfl | rfl | rfl | rfl | rfl | rfl
    · show eZ x E _ [rs] 1 [some (.int (nI 99))] [.int (nI 99)] 0 0
      refine z_tabIn (off := 91) 92 C dX4_numbersOf_1 (by decide) (by decide) (by decide) (by decide) ?_
      refine z_iconst (v := 1) C dX4_numbersOf_92 (by decide) ?_
      subst hQ_
      exact z_ret (Γ := []) C dX4_numbersOf_93 rfl rfl (Nat.le_of_ble_eq_true rfl) (Nat.le_of_ble_eq_true rfl) ⟨rfl, rfl⟩
    · show eZ x E _ [rs] 1 [some (.int (nI 100))] [.int (nI 100)] 0 0
      refine z_tabIn (off := 93) 94 C dX4_numbersOf_1 (by decide) (by decide) (by decide) (by decide) ?_
      refine z_iconst (v := 0) C dX4_numbersOf_94 (by decide) ?_
      subst hQ_
      exact z_ret (Γ := []) C dX4_numbersOf_95 rfl rfl (Nat.le_of_ble_eq_true rfl) (Nat.le_of_ble_eq_true rfl) ⟨rfl, rfl⟩
    · show eZ x E _ [rs] 1 [some (.int (nI 101))] [.int (nI 101)] 0 0
      refine z_tabIn (off := 87) 88 C dX4_numbersOf_1 (by decide) (by decide) (by decide) (by decide) ?_
      refine z_iconst (v := 3) C dX4_numbersOf_88 (by decide) ?_
      subst hQ_
      exact z_ret (Γ := []) C dX4_numbersOf_89 rfl rfl (Nat.le_of_ble_eq_true rfl) (Nat.le_of_ble_eq_true rfl) ⟨rfl, rfl⟩
    · show eZ x E _ [rs] 1 [some (.int (nI 102))] [.int (nI 102)] 0 0
      refine z_tabIn (off := 93) 94 C dX4_numbersOf_1 (by decide) (by decide) (by decide) (by decide) ?_
      refine z_iconst (v := 0) C dX4_numbersOf_94 (by decide) ?_
      subst hQ_
      exact z_ret (Γ := []) C dX4_numbersOf_95 rfl rfl (Nat.le_of_ble_eq_true rfl) (Nat.le_of_ble_eq_true rfl) ⟨rfl, rfl⟩
    · show eZ x E _ [rs] 1 [some (.int (nI 103))] [.int (nI 103)] 0 0
      refine z_tabIn (off := 93) 94 C dX4_numbersOf_1 (by decide) (by decide) (by decide) (by decide) ?_
      refine z_iconst (v := 0) C dX4_numbersOf_94 (by decide) ?_
      subst hQ_
      exact z_ret (Γ := []) C dX4_numbersOf_95 rfl rfl (Nat.le_of_ble_eq_true rfl) (Nat.le_of_ble_eq_true rfl) ⟨rfl, rfl⟩
    · show eZ x E _ [rs] 1 [some (.int (nI 104))] [.int (nI 104)] 0 0
      refine z_tabIn (off := 93) 94 C dX4_numbersOf_1 (by decide) (by decide) (by decide) (by decide) ?_
      refine z_iconst (v := 0) C dX4_numbersOf_94 (by decide) ?_
      subst hQ_
      exact z_ret (Γ := []) C dX4_numbersOf_95 rfl rfl (Nat.le_of_ble_eq_true rfl) (Nat.le_of_ble_eq_true rfl) ⟨rfl, rfl⟩
    · show eZ x E _ [rs] 1 [some (.int (nI 105))] [.int (nI 105)] 0 0
      refine z_tabIn (off := 93) 94 C dX4_numbersOf_1 (by decide) (by decide) (by decide) (by decide) ?_
      refine z_iconst (v := 0) C dX4_numbersOf_94 (by decide) ?_
      subst hQ_
      exact z_ret (Γ := []) C dX4_numbersOf_95 rfl rfl (Nat.le_of_ble_eq_true rfl) (Nat.le_of_ble_eq_true rfl) ⟨rfl, rfl⟩
    · show eZ x E _ [rs] 1 [some (.int (nI 106))] [.int (nI 106)] 0 0
      refine z_tabIn (off := 93) 94 C dX4_numbersOf_1 (by decide) (by decide) (by decide) (by decide) ?_
      refine z_iconst (v := 0) C dX4_numbersOf_94 (by decide) ?_
      subst hQ_
      exact z_ret (Γ := []) C dX4_numbersOf_95 rfl rfl (Nat.le_of_ble_eq_true rfl) (Nat.le_of_ble_eq_true rfl) ⟨rfl, rfl⟩
    · show eZ x E _ [rs] 1 [some (.int (nI 107))] [.int (nI 107)] 0 0
      refine z_tabIn (off := 93) 94 C dX4_numbersOf_1 (by decide) (by decide) (by decide) (by decide) ?_
      refine z_iconst (v := 0) C dX4_numbersOf_94 (by decide) ?_
      subst hQ_
      exact z_ret (Γ := []) C dX4_numbersOf_95 rfl rfl (Nat.le_of_ble_eq_true rfl) (Nat.le_of_ble_eq_true rfl) ⟨rfl, rfl⟩
    · show eZ x E _ [rs] 1 [some (.int (nI 108))] [.int (nI 108)] 0 0
      refine z_tabIn (off := 89) 90 C dX4_numbersOf_1 (by decide) (by decide) (by decide) (by decide) ?_
      refine z_iconst (v := 2) C dX4_numbersOf_90 (by decide) ?_
      subst hQ_
      exact z_ret (Γ := []) C dX4_numbersOf_91 rfl rfl (Nat.le_of_ble_eq_true rfl) (Nat.le_of_ble_eq_true rfl) ⟨rfl, rfl⟩
    · show eZ x E _ [rs] 1 [some (.int (nI 109))] [.int (nI 109)] 0 0
      refine z_tabIn (off := 93) 94 C dX4_numbersOf_1 (by decide) (by decide) (by decide) (by decide) ?_
      refine z_iconst (v := 0) C dX4_numbersOf_94 (by decide) ?_
      subst hQ_
      exact z_ret (Γ := []) C dX4_numbersOf_95 rfl rfl (Nat.le_of_ble_eq_true rfl) (Nat.le_of_ble_eq_true rfl) ⟨rfl, rfl⟩
    · show eZ x E _ [rs] 1 [some (.int (nI 110))] [.int (nI 110)] 0 0
      refine z_tabIn (off := 93) 94 C dX4_numbersOf_1 (by decide) (by decide) (by decide) (by decide) ?_
      refine z_iconst (v := 0) C dX4_numbersOf_94 (by decide) ?_
      subst hQ_
      exact z_ret (Γ := []) C dX4_numbersOf_95 rfl rfl (Nat.le_of_ble_eq_true rfl) (Nat.le_of_ble_eq_true rfl) ⟨rfl, rfl⟩
    · show eZ x E _ [rs] 1 [some (.int (nI 111))] [.int (nI 111)] 0 0
      refine z_tabIn (off := 93) 94 C dX4_numbersOf_1 (by decide) (by decide) (by decide) (by decide) ?_
      refine z_iconst (v := 0) C dX4_numbersOf_94 (by decide) ?_
      subst hQ_
      exact z_ret (Γ := []) C dX4_numbersOf_95 rfl rfl (Nat.le_of_ble_eq_true rfl) (Nat.le_of_ble_eq_true rfl) ⟨rfl, rfl⟩
    · show eZ x E _ [rs] 1 [some (.int (nI 112))] [.int (nI 112)] 0 0
      refine z_tabIn (off := 93) 94 C dX4_numbersOf_1 (by decide) (by decide) (by decide) (by decide) ?_
      refine z_iconst (v := 0) C dX4_numbersOf_94 (by decide) ?_
      subst hQ_
      exact z_ret (Γ := []) C dX4_numbersOf_95 rfl rfl (Nat.le_of_ble_eq_true rfl) (Nat.le_of_ble_eq_true rfl) ⟨rfl, rfl⟩
    · show eZ x E _ [rs] 1 [some (.int (nI 113))] [.int (nI 113)] 0 0
      refine z_tabIn (off := 93) 94 C dX4_numbersOf_1 (by decide) (by decide) (by decide) (by decide) ?_
      refine z_iconst (v := 0) C dX4_numbersOf_94 (by decide) ?_
      subst hQ_
      exact z_ret (Γ := []) C dX4_numbersOf_95 rfl rfl (Nat.le_of_ble_eq_true rfl) (Nat.le_of_ble_eq_true rfl) ⟨rfl, rfl⟩
    · show eZ x E _ [rs] 1 [some (.int (nI 114))] [.int (nI 114)] 0 0
      refine z_tabIn (off := 91) 92 C dX4_numbersOf_1 (by decide) (by decide) (by decide) (by decide) ?_
      refine z_iconst (v := 1) C dX4_numbersOf_92 (by decide) ?_
      subst hQ_
      exact z_ret (Γ := []) C dX4_numbersOf_93 rfl rfl (Nat.le_of_ble_eq_true rfl) (Nat.le_of_ble_eq_true rfl) ⟨rfl, rfl⟩
    · show eZ x E _ [rs] 1 [some (.int (nI 115))] [.int (nI 115)] 0 0
      refine z_tabIn (off := 89) 90 C dX4_numbersOf_1 (by decide) (by decide) (by decide) (by decide) ?_
      refine z_iconst (v := 2) C dX4_numbersOf_90 (by decide) ?_
      subst hQ_
      exact z_ret (Γ := []) C dX4_numbersOf_91 rfl rfl (Nat.le_of_ble_eq_true rfl) (Nat.le_of_ble_eq_true rfl) ⟨rfl, rfl⟩
    · show eZ x E _ [rs] 1 [some (.int (nI 116))] [.int (nI 116)] 0 0
      refine z_tabIn (off := 89) 90 C dX4_numbersOf_1 (by decide) (by decide) (by decide) (by decide) ?_
      refine z_iconst (v := 2) C dX4_numbersOf_90 (by decide) ?_
      subst hQ_
      exact z_ret (Γ := []) C dX4_numbersOf_91 rfl rfl (Nat.le_of_ble_eq_true rfl) (Nat.le_of_ble_eq_true rfl) ⟨rfl, rfl⟩
  · refine z_tabOut 94 C dX4_numbersOf_1 (by rw [nI_toInt (by omega)]; omega) (by decide) ?_
    refine z_iconst (v := 0) C dX4_numbersOf_94 (by decide) ?_
    subst hQ_
    exact z_ret (Γ := []) C dX4_numbersOf_95 rfl rfl (Nat.le_of_ble_eq_true rfl) (Nat.le_of_ble_eq_true rfl) ⟨by rw [show gW k = 0 from by unfold gW; rw [if_neg (by omega), if_neg (by omega), if_neg (by omega)]]; rfl, rfl⟩

def gOd (ch : Nat) : Nat := if 33 ≤ ch then ch else 0
theorem gOd_W (ch : Nat) : gW (gOd ch) = gW ch := by
  unfold gOd
  split
  · rfl
  · rw [show gW 0 = 0 from rfl]
    unfold gW
    rw [if_neg (by omega), if_neg (by omega), if_neg (by omega)]

set_option maxHeartbeats 4000000 in
theorem m_Mparses {l : Launch} (hl : l.stackTraces = false) (E : eEn) (a : Nat) (o : Mo) (tx : List Nat) (tf : Nat → Int32) (hT : tR tf o.ty tx) (h126 : ∀ c ∈ tx, 32 ≤ c ∧ c ≤ 126) (p : Nat) (hp : p ≤ tx.length) (nf : Nat → Int32) (ch : Nat) (hc : tx[p]? = some ch) : eMet l E yX4_parses (ws_ yX4_parses cX4_parses 4 (some .boolean)) ({ frames := 3, cells := 0, slots := 0, locals := 66 }) [.ref a] [eO a 4 [.ref o.sa, .ref o.pa, .ref o.ha, .ref o.xa, .int o.pn, .int o.ru, .ref o.ta, .int o.ty, .int (nI p), .int o.fr, .int o.re, .int o.ca, .int o.os, .int o.od, .ref o.na], eIA E o.ta 60 tf, eIA E o.na 3 nf] (fun w Γ => w = some (.int (eB (gOF tx (gW ch) (gP1 ch p) nf).1)) ∧ Γ = [eMO a ((o.odS (nI (gOd ch))).spS (nI (gOF tx (gW ch) (gP1 ch p) nf).2.1)), eIA E o.ta 60 tf, eIA E o.na 3 (gOF tx (gW ch) (gP1 ch p) nf).2.2]) := by
  refine eStart (cc := cX4_parses) (nL := 4) (L := [some (.ref a), none, none, none]) hl (by decide) rfl (List.forall_mem_cons.mpr ⟨rfl, (fun _ h => absurd h List.not_mem_nil)⟩) (Nat.le_of_ble_eq_true rfl) ?_
  intro x rs C
  show eZ x E (eQ x E (fun w Γ => w = some (.int (eB (gOF tx (gW ch) (gP1 ch p) nf).1)) ∧ Γ = [eMO a ((o.odS (nI (gOd ch))).spS (nI (gOF tx (gW ch) (gP1 ch p) nf).2.1)), eIA E o.ta 60 tf, eIA E o.na 3 (gOF tx (gW ch) (gP1 ch p) nf).2.2]) rs) [eO a 4 [.ref o.sa, .ref o.pa, .ref o.ha, .ref o.xa, .int o.pn, .int o.ru, .ref o.ta, .int o.ty, .int (nI p), .int o.fr, .int o.re, .int o.ca, .int o.os, .int o.od, .ref o.na], eIA E o.ta 60 tf, eIA E o.na 3 nf, rs] 0 [some (.ref a), none, none, none] [] 0 0
  generalize hQ_ : eQ x E (fun w Γ => w = some (.int (eB (gOF tx (gW ch) (gP1 ch p) nf).1)) ∧ Γ = [eMO a ((o.odS (nI (gOd ch))).spS (nI (gOF tx (gW ch) (gP1 ch p) nf).2.1)), eIA E o.ta 60 tf, eIA E o.na 3 (gOF tx (gW ch) (gP1 ch p) nf).2.2]) rs = Q_
  have ht60 := hT.2.1
  have hlt : p < tx.length := (List.getElem?_eq_some_iff.mp hc).1
  have hc6 := h126 ch (List.mem_of_getElem? hc)
  have hW3 := gW_3 ch
  refine z_aload_n C dX4_parses_0 rfl rfl ?_
  refine z_aload_n C dX4_parses_1 rfl rfl ?_
  refine z_bipush (v := 33) C dX4_parses_2 (by decide) ?_
  refine z_bipush (v := 126) C dX4_parses_4 (by decide) ?_
  refine z_callV (r := (RX4, TX4, 15)) (As := [.int 33, .int 126]) (rest := [.ref a]) (Δ := [eIA E o.na 3 nf, rs]) [0, 1] [2, 3] 2 (m_MisAt hl E a o tx tf hT h126 p hp 33 126) C dX4_parses_6 rfl rfl (eIn (i := 0) rfl List.mem_cons_self) rfl rfl q1906 q1908 qs44 q67 q1909 (by decide +kernel) rfl (ePm 4 rfl (by decide +kernel)) rfl rfl ⟨Nat.le_of_ble_eq_true rfl, Nat.le_of_ble_eq_true rfl⟩ (Nat.le_trans (eSm rfl eS0) (Nat.le_of_ble_eq_true rfl)) ⟨Nat.le_of_ble_eq_true rfl, Nat.le_of_ble_eq_true rfl⟩ (fun v_ Γ_ hp_ => ?_)
  obtain ⟨rfl, rfl⟩ := hp_
  show eZ x E _ [eO a 4 [.ref o.sa, .ref o.pa, .ref o.ha, .ref o.xa, .int o.pn, .int o.ru, .ref o.ta, .int o.ty, .int (nI p), .int o.fr, .int o.re, .int o.ca, .int o.os, .int o.od, .ref o.na], eIA E o.ta 60 tf, eIA E o.na 3 nf, rs] 9 [some (.ref a), none, none, none] [.int (eB (gIsAt tx p 33 126)), .ref a] 0 0
  have hia : gIsAt tx p 33 126 = decide (33 ≤ ch) := by unfold gIsAt; rw [hc]; show eBt (nI ch) (nI 33) (nI 126) = _; rw [eBtN ch 33 126 (by omega) (by decide) (by decide)]; exact decide_eq_decide.mpr ⟨fun h => h.1, fun h => ⟨h, hc6.2⟩⟩
  rw [hia]
  show eZ x E _ [eO a 4 [.ref o.sa, .ref o.pa, .ref o.ha, .ref o.xa, .int o.pn, .int o.ru, .ref o.ta, .int o.ty, .int (nI p), .int o.fr, .int o.re, .int o.ca, .int o.os, .int o.od, .ref o.na], eIA E o.ta 60 tf, eIA E o.na 3 nf, rs] 9 [some (.ref a), none, none, none] [.int (eB (decide (33 ≤ ch))), .ref a] 0 0
  suffices J_ : eZ x E Q_ [eO a 4 [.ref o.sa, .ref o.pa, .ref o.ha, .ref o.xa, .int o.pn, .int o.ru, .ref o.ta, .int o.ty, .int (nI p), .int o.fr, .int o.re, .int o.ca, .int o.os, .int o.od, .ref o.na], eIA E o.ta 60 tf, eIA E o.na 3 nf, rs] 25 [some (.ref a), none, none, none] [.int (nI (gOd ch)), .ref a] 0 0 by
    refine z_if_eq_B 24 C dX4_parses_9 (by decide) (fun h_ => ?_) (fun h_ => ?_)
    · refine z_iconst (v := 0) C dX4_parses_24 (by decide) ?_
      refine z_is (w := nI (gOd ch)) (by rw [gOd, if_neg (of_decide_eq_false h_)]; rfl) ?_
      exact J_
    · refine z_aload_n C dX4_parses_12 rfl rfl ?_
      refine z_get eK4 0 6 C dX4_parses_13 rfl rfl q1677 (eSame1 rfl) (by decide) rfl ?_
      refine z_aload_n C dX4_parses_16 rfl rfl ?_
      refine z_get eK4 0 8 C dX4_parses_17 rfl rfl q1679 (eSame1 rfl) (by decide) rfl ?_
      refine z_iald (m := p) (v := nI ch) 1 C dX4_parses_20 rfl rfl (by omega) (by decide) (hT.2.2 p ch hc) ?_
      refine z_goto 25 C dX4_parses_21 (by decide) ?_
      refine z_is (w := nI (gOd ch)) (by rw [gOd, if_pos (of_decide_eq_true h_)]) ?_
      exact J_
  refine z_put eK4 0 13 (Γ2 := [eO a 4 [.ref o.sa, .ref o.pa, .ref o.ha, .ref o.xa, .int o.pn, .int o.ru, .ref o.ta, .int o.ty, .int (nI p), .int o.fr, .int o.re, .int o.ca, .int o.os, .int (nI (gOd ch)), .ref o.na], eIA E o.ta 60 tf, eIA E o.na 3 nf, rs]) C dX4_parses_25 rfl rfl q1684 (eSame1 rfl) (by decide) rfl rfl rfl rfl (Nat.le_of_ble_eq_true rfl) rfl ?_
  refine z_aload_n C dX4_parses_28 rfl rfl ?_
  refine z_get eK4 0 13 C dX4_parses_29 rfl rfl q1684 (eSame1 rfl) (by decide) rfl ?_
  refine z_callS (As := [.int (nI (gOd ch))]) (rest := []) (Δ := [eO a 4 [.ref o.sa, .ref o.pa, .ref o.ha, .ref o.xa, .int o.pn, .int o.ru, .ref o.ta, .int o.ty, .int (nI p), .int o.fr, .int o.re, .int o.ca, .int o.os, .int (nI (gOd ch)), .ref o.na], eIA E o.ta 60 tf, eIA E o.na 3 nf, rs]) [] [0, 1, 2, 3] 1 (m_MnumOf hl E (gOd ch) (by unfold gOd; split <;> omega)) C dX4_parses_32 rfl rfl rfl q1910 q1911 q67 q1912 (by decide +kernel) rfl (ePm 4 rfl (by decide +kernel)) rfl rfl ⟨Nat.le_of_ble_eq_true rfl, Nat.le_of_ble_eq_true rfl⟩ (Nat.le_trans eS0 (Nat.le_of_ble_eq_true rfl)) ⟨Nat.le_of_ble_eq_true rfl, Nat.le_of_ble_eq_true rfl⟩ (fun v_ Γ_ hp_ => ?_)
  obtain ⟨rfl, rfl⟩ := hp_
  show eZ x E _ [eO a 4 [.ref o.sa, .ref o.pa, .ref o.ha, .ref o.xa, .int o.pn, .int o.ru, .ref o.ta, .int o.ty, .int (nI p), .int o.fr, .int o.re, .int o.ca, .int o.os, .int (nI (gOd ch)), .ref o.na], eIA E o.ta 60 tf, eIA E o.na 3 nf, rs] 35 [some (.ref a), none, none, none] [.int (nI (gW (gOd ch)))] 0 0
  rw [gOd_W]
  show eZ x E _ [eO a 4 [.ref o.sa, .ref o.pa, .ref o.ha, .ref o.xa, .int o.pn, .int o.ru, .ref o.ta, .int o.ty, .int (nI p), .int o.fr, .int o.re, .int o.ca, .int o.os, .int (nI (gOd ch)), .ref o.na], eIA E o.ta 60 tf, eIA E o.na 3 nf, rs] 35 [some (.ref a), none, none, none] [.int (nI (gW ch))] 0 0
  refine z_istore_n (L2 := [some (.ref a), some (.int (nI (gW ch))), none, none]) C dX4_parses_35 rfl (Nat.le_of_ble_eq_true rfl) rfl ?_
  refine z_iload_n C dX4_parses_36 rfl rfl ?_
  refine z_if_ne 42 C dX4_parses_37 (by decide) (fun h1 => ?_) (fun h1 => ?_)
  · have hW0 : gW ch ≠ 0 := fun h => h1 (by rw [h]; rfl)
    have hp1 : gP1 ch p = p + 1 := by rw [gP1, if_neg hW0]
    obtain ⟨W, hWd⟩ : ∃ W, gW ch = W := ⟨_, rfl⟩
    rw [hWd] at hW0 hW3 hQ_ ⊢
    rw [hp1] at hQ_
    show eZ x E _ [eO a 4 [.ref o.sa, .ref o.pa, .ref o.ha, .ref o.xa, .int o.pn, .int o.ru, .ref o.ta, .int o.ty, .int (nI p), .int o.fr, .int o.re, .int o.ca, .int o.os, .int (nI (gOd ch)), .ref o.na], eIA E o.ta 60 tf, eIA E o.na 3 nf, rs] 42 [some (.ref a), some (.int (nI W)), none, none] [] 0 0
    refine z_aload_n C dX4_parses_42 rfl rfl ?_
    refine z_dup C dX4_parses_43 rfl ?_
    refine z_get eK4 0 8 C dX4_parses_44 rfl rfl q1679 (eSame1 rfl) (by decide) rfl ?_
    refine z_iconst (v := 1) C dX4_parses_47 (by decide) ?_
    refine z_iadd (w := nI (p + 1)) C dX4_parses_48 (nI_add p 1) ?_
    refine z_put eK4 0 8 (Γ2 := [eO a 4 [.ref o.sa, .ref o.pa, .ref o.ha, .ref o.xa, .int o.pn, .int o.ru, .ref o.ta, .int o.ty, .int (nI (p + 1)), .int o.fr, .int o.re, .int o.ca, .int o.os, .int (nI (gOd ch)), .ref o.na], eIA E o.ta 60 tf, eIA E o.na 3 nf, rs]) C dX4_parses_49 rfl rfl q1679 (eSame1 rfl) (by decide) rfl rfl rfl rfl (Nat.le_of_ble_eq_true rfl) rfl ?_
    refine z_aload_n C dX4_parses_52 rfl rfl ?_
    refine z_iconst (v := 0) C dX4_parses_53 (by decide) ?_
    refine z_callV (r := (RX4, TX4, 15)) (As := [.int 0]) (rest := []) (Δ := [rs]) [0, 1, 2] [3] 1 (m_Mnumbered hl E a (o.sa, o.pa, o.ha, o.xa, o.pn, o.ru, o.ta, o.ty, nI (p + 1), o.fr, o.re, o.ca, o.os, nI (gOd ch), o.na) tx tf hT h126 (p + 1) hlt nf 0 (by decide)) C dX4_parses_54 rfl rfl (eIn (i := 0) rfl List.mem_cons_self) rfl rfl q1913 q1915 qs45 q67 q1916 (by decide +kernel) rfl (ePm 4 rfl (by decide +kernel)) rfl rfl ⟨Nat.le_of_ble_eq_true rfl, Nat.le_of_ble_eq_true rfl⟩ (Nat.le_trans eS0 (Nat.le_of_ble_eq_true rfl)) ⟨Nat.le_of_ble_eq_true rfl, Nat.le_of_ble_eq_true rfl⟩ (fun v_ Γ_ hp_ => ?_)
    obtain ⟨rfl, rfl⟩ := hp_
    show eZ x E _ [eO a 4 [.ref o.sa, .ref o.pa, .ref o.ha, .ref o.xa, .int o.pn, .int o.ru, .ref o.ta, .int o.ty, .int (nI (gRd tx 3 (p + 1) 0).1), .int o.fr, .int o.re, .int o.ca, .int o.os, .int (nI (gOd ch)), .ref o.na], eIA E o.ta 60 tf, eIA E o.na 3 (upd nf 0 (gRd tx 3 (p + 1) 0).2), rs] 57 [some (.ref a), some (.int (nI W)), none, none] [.int (eB (decide (p + 1 < (gRd tx 3 (p + 1) 0).1)))] 0 0
    refine z_istore_n (L2 := [some (.ref a), some (.int (nI W)), some (.int (eB (decide (p + 1 < (gRd tx 3 (p + 1) 0).1)))), none]) C dX4_parses_57 rfl (Nat.le_of_ble_eq_true rfl) rfl ?_
    refine z_iconst (v := 1) C dX4_parses_58 (by decide) ?_
    refine z_istore_n (L2 := [some (.ref a), some (.int (nI W)), some (.int (eB (decide (p + 1 < (gRd tx 3 (p + 1) 0).1)))), some (.int 1)]) C dX4_parses_59 rfl (Nat.le_of_ble_eq_true rfl) rfl ?_
    have F0 : ∀ (p2 : Nat) (f2 : Nat → Int32), (false, p2, f2) = gFm tx W 0 (p + 1) nf → eZ x E Q_ [eO a 4 [.ref o.sa, .ref o.pa, .ref o.ha, .ref o.xa, .int o.pn, .int o.ru, .ref o.ta, .int o.ty, .int (nI p2), .int o.fr, .int o.re, .int o.ca, .int o.os, .int (nI (gOd ch)), .ref o.na], eIA E o.ta 60 tf, eIA E o.na 3 f2, rs] 98 [some (.ref a), some (.int (nI W)), some (.int 0), none] [] 0 0 := by
      intro p2 f2 hR
      have hO : gOF tx W (p + 1) nf = (false, p2, f2) := by rw [gOF, if_neg hW0, ← hR]; rfl
      refine z_iload_n C dX4_parses_98 rfl rfl ?_
      refine z_if_eq 115 C dX4_parses_99 (by decide) (fun g1 => ?_) (fun g1 => ?_)
      · refine z_iconst (v := 0) C dX4_parses_115 (by decide) ?_
        subst hQ_
        exact z_ret (Γ := [eO a 4 [.ref o.sa, .ref o.pa, .ref o.ha, .ref o.xa, .int o.pn, .int o.ru, .ref o.ta, .int o.ty, .int (nI p2), .int o.fr, .int o.re, .int o.ca, .int o.os, .int (nI (gOd ch)), .ref o.na], eIA E o.ta 60 tf, eIA E o.na 3 f2]) C dX4_parses_116 rfl rfl (Nat.le_of_ble_eq_true rfl) (Nat.le_of_ble_eq_true rfl) ⟨by rw [hO]; rfl, by rw [hO]⟩
      · exact absurd rfl g1
    have F1 : ∀ (p2 : Nat) (f2 : Nat → Int32), p2 ≤ tx.length → (true, p2, f2) = gFm tx W 0 (p + 1) nf → eZ x E Q_ [eO a 4 [.ref o.sa, .ref o.pa, .ref o.ha, .ref o.xa, .int o.pn, .int o.ru, .ref o.ta, .int o.ty, .int (nI p2), .int o.fr, .int o.re, .int o.ca, .int o.os, .int (nI (gOd ch)), .ref o.na], eIA E o.ta 60 tf, eIA E o.na 3 f2, rs] 98 [some (.ref a), some (.int (nI W)), some (.int 1), none] [] 0 0 := by
      intro p2 f2 hp2 hR
      have hO : gOF tx W (p + 1) nf = (gAcc tx p2 59, p2 + (if gAcc tx p2 59 = true then 1 else 0), f2) := by rw [gOF, if_neg hW0, ← hR]; rfl
      refine z_iload_n C dX4_parses_98 rfl rfl ?_
      refine z_if_eq 115 C dX4_parses_99 (by decide) (fun g1 => ?_) (fun g1 => ?_)
      · exact absurd g1 (by decide)
      · refine z_aload_n C dX4_parses_102 rfl rfl ?_
        refine z_bipush (v := 59) C dX4_parses_103 (by decide) ?_
        refine z_callV (r := (RX4, TX4, 15)) (As := [.int 59]) (rest := []) (Δ := [eIA E o.na 3 f2, rs]) [0, 1] [2, 3] 1 (m_Msign hl E a (o.sa, o.pa, o.ha, o.xa, o.pn, o.ru, o.ta, o.ty, (nI p2), o.fr, o.re, o.ca, o.os, (nI (gOd ch)), o.na) tx tf hT h126 p2 hp2 59 (by decide)) C dX4_parses_105 rfl rfl (eIn (i := 0) rfl List.mem_cons_self) rfl rfl q1917 q1919 qs46 q67 q1920 (by decide +kernel) rfl (ePm 4 rfl (by decide +kernel)) rfl rfl ⟨Nat.le_of_ble_eq_true rfl, Nat.le_of_ble_eq_true rfl⟩ (Nat.le_trans eS0 (Nat.le_of_ble_eq_true rfl)) ⟨Nat.le_of_ble_eq_true rfl, Nat.le_of_ble_eq_true rfl⟩ (fun v_ Γ_ hp_ => ?_)
        obtain ⟨rfl, rfl⟩ := hp_
        show eZ x E _ [eO a 4 [.ref o.sa, .ref o.pa, .ref o.ha, .ref o.xa, .int o.pn, .int o.ru, .ref o.ta, .int o.ty, .int (nI (p2 + (if gAcc tx p2 59 = true then 1 else 0))), .int o.fr, .int o.re, .int o.ca, .int o.os, .int (nI (gOd ch)), .ref o.na], eIA E o.ta 60 tf, eIA E o.na 3 f2, rs] 108 [some (.ref a), some (.int (nI W)), some (.int 1), none] [.int (eB (gAcc tx p2 59))] 0 0
        suffices J_ : eZ x E Q_ [eO a 4 [.ref o.sa, .ref o.pa, .ref o.ha, .ref o.xa, .int o.pn, .int o.ru, .ref o.ta, .int o.ty, .int (nI (p2 + (if gAcc tx p2 59 = true then 1 else 0))), .int o.fr, .int o.re, .int o.ca, .int o.os, .int (nI (gOd ch)), .ref o.na], eIA E o.ta 60 tf, eIA E o.na 3 f2, rs] 116 [some (.ref a), some (.int (nI W)), some (.int 1), none] [.int (eB (gAcc tx p2 59))] 0 0 by
          refine z_if_eq_B 115 C dX4_parses_108 (by decide) (fun h_ => ?_) (fun h_ => ?_)
          · refine z_iconst (v := 0) C dX4_parses_115 (by decide) ?_
            refine z_is (w := eB (gAcc tx p2 59)) (by rw [h_]; rfl) ?_
            exact J_
          · refine z_iconst (v := 1) C dX4_parses_111 (by decide) ?_
            refine z_goto 116 C dX4_parses_112 (by decide) ?_
            refine z_is (w := eB (gAcc tx p2 59)) (by rw [h_]; rfl) ?_
            exact J_
        subst hQ_
        exact z_ret (Γ := [eO a 4 [.ref o.sa, .ref o.pa, .ref o.ha, .ref o.xa, .int o.pn, .int o.ru, .ref o.ta, .int o.ty, .int (nI (p2 + (if gAcc tx p2 59 = true then 1 else 0))), .int o.fr, .int o.re, .int o.ca, .int o.os, .int (nI (gOd ch)), .ref o.na], eIA E o.ta 60 tf, eIA E o.na 3 f2]) C dX4_parses_116 rfl (eB_nar _) (Nat.le_of_ble_eq_true rfl) (Nat.le_of_ble_eq_true rfl) ⟨by rw [hO], by rw [hO]⟩
    have K0 : ∀ (wh p2 : Nat) (f2 : Nat → Int32), (false, p2, f2) = gFm tx W 0 (p + 1) nf → eZ x E Q_ [eO a 4 [.ref o.sa, .ref o.pa, .ref o.ha, .ref o.xa, .int o.pn, .int o.ru, .ref o.ta, .int o.ty, .int (nI p2), .int o.fr, .int o.re, .int o.ca, .int o.os, .int (nI (gOd ch)), .ref o.na], eIA E o.ta 60 tf, eIA E o.na 3 f2, rs] 60 [some (.ref a), some (.int (nI W)), some (.int 0), some (.int (nI wh))] [] 0 0 := by
      intro wh p2 f2 hR
      refine z_iload_n C dX4_parses_60 rfl rfl ?_
      refine z_iload_n C dX4_parses_61 rfl rfl ?_
      refine z_icmp_ge 98 C dX4_parses_62 (by decide) (fun g1 => ?_) (fun g1 => ?_)
      · refine z_forget (L' := [some (.ref a), some (.int (nI W)), some (.int 0), none]) ⟨Or.inr rfl, Or.inr rfl, Or.inr rfl, Or.inl rfl, trivial⟩ ?_
        exact F0 p2 f2 hR
      · refine z_iload_n C dX4_parses_65 rfl rfl ?_
        refine z_if_eq 98 C dX4_parses_66 (by decide) (fun g2 => ?_) (fun g2 => ?_)
        · refine z_forget (L' := [some (.ref a), some (.int (nI W)), some (.int 0), none]) ⟨Or.inr rfl, Or.inr rfl, Or.inr rfl, Or.inl rfl, trivial⟩ ?_
          exact F0 p2 f2 hR
        · exact absurd rfl g2
    have K : ∀ (d wh p2 : Nat) (f2 : Nat → Int32), wh + d = W → 1 ≤ wh → p2 ≤ tx.length → gFm tx d wh p2 f2 = gFm tx W 0 (p + 1) nf → eZ x E Q_ [eO a 4 [.ref o.sa, .ref o.pa, .ref o.ha, .ref o.xa, .int o.pn, .int o.ru, .ref o.ta, .int o.ty, .int (nI p2), .int o.fr, .int o.re, .int o.ca, .int o.os, .int (nI (gOd ch)), .ref o.na], eIA E o.ta 60 tf, eIA E o.na 3 f2, rs] 60 [some (.ref a), some (.int (nI W)), some (.int 1), some (.int (nI wh))] [] 0 0 := by
      intro d
      induction d with
      | zero =>
          intro wh p2 f2 hk h1w hp2 hR
          obtain rfl : wh = W := by omega
          refine z_iload_n C dX4_parses_60 rfl rfl ?_
          refine z_iload_n C dX4_parses_61 rfl rfl ?_
          refine z_icmp_ge 98 C dX4_parses_62 (by decide) (fun h_ => ?_) (fun h_ => absurd h_ (absurd (Int32.le_refl _) h_))
          refine z_forget (L' := [some (.ref a), some (.int (nI wh)), some (.int 1), none]) ⟨Or.inr rfl, Or.inr rfl, Or.inr rfl, Or.inl rfl, trivial⟩ ?_
          exact F1 p2 f2 hp2 hR
      | succ d ih =>
          intro wh p2 f2 hk h1w hp2 hR
          have hw0 : wh ≠ 0 := by omega
          refine z_iload_n C dX4_parses_60 rfl rfl ?_
          refine z_iload_n C dX4_parses_61 rfl rfl ?_
          refine z_icmp_ge 98 C dX4_parses_62 (by decide) (fun h_ => absurd h_ (nI_ge (a := wh) (b := W) (by omega) (by omega))) (fun h_ => ?_)
          refine z_iload_n C dX4_parses_65 rfl rfl ?_
          refine z_if_eq 98 C dX4_parses_66 (by decide) (fun g0 => ?_) (fun g0 => ?_)
          · exact absurd g0 (by decide)
          · refine z_aload_n C dX4_parses_69 rfl rfl ?_
            refine z_bipush (v := 44) C dX4_parses_70 (by decide) ?_
            refine z_callV (r := (RX4, TX4, 15)) (As := [.int 44]) (rest := []) (Δ := [eIA E o.na 3 f2, rs]) [0, 1] [2, 3] 1 (m_Msign hl E a (o.sa, o.pa, o.ha, o.xa, o.pn, o.ru, o.ta, o.ty, (nI p2), o.fr, o.re, o.ca, o.os, (nI (gOd ch)), o.na) tx tf hT h126 p2 hp2 44 (by decide)) C dX4_parses_72 rfl rfl (eIn (i := 0) rfl List.mem_cons_self) rfl rfl q1917 q1919 qs46 q67 q1920 (by decide +kernel) rfl (ePm 4 rfl (by decide +kernel)) rfl rfl ⟨Nat.le_of_ble_eq_true rfl, Nat.le_of_ble_eq_true rfl⟩ (Nat.le_trans eS0 (Nat.le_of_ble_eq_true rfl)) ⟨Nat.le_of_ble_eq_true rfl, Nat.le_of_ble_eq_true rfl⟩ (fun v_ Γ_ hp_ => ?_)
            obtain ⟨rfl, rfl⟩ := hp_
            show eZ x E _ [eO a 4 [.ref o.sa, .ref o.pa, .ref o.ha, .ref o.xa, .int o.pn, .int o.ru, .ref o.ta, .int o.ty, .int (nI (p2 + (if gAcc tx p2 44 = true then 1 else 0))), .int o.fr, .int o.re, .int o.ca, .int o.os, .int (nI (gOd ch)), .ref o.na], eIA E o.ta 60 tf, eIA E o.na 3 f2, rs] 75 [some (.ref a), some (.int (nI W)), some (.int 1), some (.int (nI wh))] [.int (eB (gAcc tx p2 44))] 0 0
            refine z_if_eq_B 90 C dX4_parses_75 (by decide) (fun ha => ?_) (fun ha => ?_)
            · refine z_go (Γ' := [eO a 4 [.ref o.sa, .ref o.pa, .ref o.ha, .ref o.xa, .int o.pn, .int o.ru, .ref o.ta, .int o.ty, .int (nI p2), .int o.fr, .int o.re, .int o.ca, .int o.os, .int (nI (gOd ch)), .ref o.na], eIA E o.ta 60 tf, eIA E o.na 3 f2, rs]) (by rw [ha]; rfl) ?_
              show eZ x E _ [eO a 4 [.ref o.sa, .ref o.pa, .ref o.ha, .ref o.xa, .int o.pn, .int o.ru, .ref o.ta, .int o.ty, .int (nI p2), .int o.fr, .int o.re, .int o.ca, .int o.os, .int (nI (gOd ch)), .ref o.na], eIA E o.ta 60 tf, eIA E o.na 3 f2, rs] 90 [some (.ref a), some (.int (nI W)), some (.int 1), some (.int (nI wh))] [] 0 0
              refine z_iconst (v := 0) C dX4_parses_90 (by decide) ?_
              refine z_istore_n (L2 := [some (.ref a), some (.int (nI W)), some (.int 0), some (.int (nI wh))]) C dX4_parses_91 rfl (Nat.le_of_ble_eq_true rfl) rfl ?_
              refine z_iinc (v := nI (wh + 1)) (L2 := [some (.ref a), some (.int (nI W)), some (.int 0), some (.int (nI (wh + 1)))]) C dX4_parses_92 rfl (nI_1 wh) rfl ?_
              refine z_goto 60 C dX4_parses_95 (by decide) ?_
              exact K0 (wh + 1) p2 f2 (by rw [← hR]; exact (if_pos ⟨hw0, ha⟩).symm)
            · refine z_go (Γ' := [eO a 4 [.ref o.sa, .ref o.pa, .ref o.ha, .ref o.xa, .int o.pn, .int o.ru, .ref o.ta, .int o.ty, .int (nI (p2 + 1)), .int o.fr, .int o.re, .int o.ca, .int o.os, .int (nI (gOd ch)), .ref o.na], eIA E o.ta 60 tf, eIA E o.na 3 f2, rs]) (by rw [ha]; rfl) ?_
              show eZ x E _ [eO a 4 [.ref o.sa, .ref o.pa, .ref o.ha, .ref o.xa, .int o.pn, .int o.ru, .ref o.ta, .int o.ty, .int (nI (p2 + 1)), .int o.fr, .int o.re, .int o.ca, .int o.os, .int (nI (gOd ch)), .ref o.na], eIA E o.ta 60 tf, eIA E o.na 3 f2, rs] 78 [some (.ref a), some (.int (nI W)), some (.int 1), some (.int (nI wh))] [] 0 0
              have hp3 : p2 + 1 ≤ tx.length := gAcc_lt ha
              refine z_aload_n C dX4_parses_78 rfl rfl ?_
              refine z_iload_n C dX4_parses_79 rfl rfl ?_
              refine z_callV (r := (RX4, TX4, 15)) (As := [.int (nI wh)]) (rest := []) (Δ := [rs]) [0, 1, 2] [3] 1 (m_Mnumbered hl E a (o.sa, o.pa, o.ha, o.xa, o.pn, o.ru, o.ta, o.ty, nI (p2 + 1), o.fr, o.re, o.ca, o.os, (nI (gOd ch)), o.na) tx tf hT h126 (p2 + 1) hp3 f2 wh (by omega)) C dX4_parses_80 rfl rfl (eIn (i := 0) rfl List.mem_cons_self) rfl rfl q1913 q1915 qs45 q67 q1916 (by decide +kernel) rfl (ePm 4 rfl (by decide +kernel)) rfl rfl ⟨Nat.le_of_ble_eq_true rfl, Nat.le_of_ble_eq_true rfl⟩ (Nat.le_trans eS0 (Nat.le_of_ble_eq_true rfl)) ⟨Nat.le_of_ble_eq_true rfl, Nat.le_of_ble_eq_true rfl⟩ (fun v_ Γ_ hp_ => ?_)
              obtain ⟨rfl, rfl⟩ := hp_
              show eZ x E _ [eO a 4 [.ref o.sa, .ref o.pa, .ref o.ha, .ref o.xa, .int o.pn, .int o.ru, .ref o.ta, .int o.ty, .int (nI (gRd tx 3 (p2 + 1) 0).1), .int o.fr, .int o.re, .int o.ca, .int o.os, .int (nI (gOd ch)), .ref o.na], eIA E o.ta 60 tf, eIA E o.na 3 (upd f2 wh (gRd tx 3 (p2 + 1) 0).2), rs] 83 [some (.ref a), some (.int (nI W)), some (.int 1), some (.int (nI wh))] [.int (eB (decide (p2 + 1 < (gRd tx 3 (p2 + 1) 0).1)))] 0 0
              refine z_if_eq_B 90 C dX4_parses_83 (by decide) (fun k1 => ?_) (fun k1 => ?_)
              · refine z_iconst (v := 0) C dX4_parses_90 (by decide) ?_
                refine z_istore_n (L2 := [some (.ref a), some (.int (nI W)), some (.int 0), some (.int (nI wh))]) C dX4_parses_91 rfl (Nat.le_of_ble_eq_true rfl) rfl ?_
                refine z_iinc (v := nI (wh + 1)) (L2 := [some (.ref a), some (.int (nI W)), some (.int 0), some (.int (nI (wh + 1)))]) C dX4_parses_92 rfl (nI_1 wh) rfl ?_
                refine z_goto 60 C dX4_parses_95 (by decide) ?_
                exact K0 (wh + 1) _ _ (by rw [← hR]; exact (gFm_1f hw0 ha (of_decide_eq_false k1)).symm)
              · refine z_iconst (v := 1) C dX4_parses_86 (by decide) ?_
                refine z_goto 91 C dX4_parses_87 (by decide) ?_
                refine z_istore_n (L2 := [some (.ref a), some (.int (nI W)), some (.int 1), some (.int (nI wh))]) C dX4_parses_91 rfl (Nat.le_of_ble_eq_true rfl) rfl ?_
                refine z_iinc (v := nI (wh + 1)) (L2 := [some (.ref a), some (.int (nI W)), some (.int 1), some (.int (nI (wh + 1)))]) C dX4_parses_92 rfl (nI_1 wh) rfl ?_
                refine z_goto 60 C dX4_parses_95 (by decide) ?_
                exact ih (wh + 1) _ _ (by omega) (by omega) (gRd_le tx 3 (p2 + 1) 0 hp3).2.1 (by rw [← hR]; exact (gFm_1t hw0 ha (of_decide_eq_true k1)).symm)
    obtain ⟨d, rfl⟩ : ∃ d, W = d + 1 := ⟨W - 1, by omega⟩
    rcases hdd : decide (p + 1 < (gRd tx 3 (p + 1) 0).1) with _ | _
    · exact K0 1 _ _ (gFm_0f (of_decide_eq_false hdd)).symm
    · exact K d 1 _ _ (by omega) (Nat.le_refl _) (gRd_le tx 3 (p + 1) 0 hlt).2.1 (gFm_0t (of_decide_eq_true hdd)).symm
  · have hW0 : gW ch = 0 := by rcases Nat.eq_zero_or_pos (gW ch) with h | h; exact h; exact absurd h1 (nI_ne0 h (by omega))
    refine z_iconst (v := 0) C dX4_parses_40 (by decide) ?_
    have hO : gOF tx (gW ch) (gP1 ch p) nf = (false, p, nf) := by rw [gP1, if_pos hW0, Nat.add_zero, gOF, if_pos hW0]
    subst hQ_
    exact z_ret (Γ := [eO a 4 [.ref o.sa, .ref o.pa, .ref o.ha, .ref o.xa, .int o.pn, .int o.ru, .ref o.ta, .int o.ty, .int (nI p), .int o.fr, .int o.re, .int o.ca, .int o.os, .int (nI (gOd ch)), .ref o.na], eIA E o.ta 60 tf, eIA E o.na 3 nf]) C dX4_parses_41 rfl rfl (Nat.le_of_ble_eq_true rfl) (Nat.le_of_ble_eq_true rfl) ⟨by rw [hO]; rfl, by rw [hO]⟩
