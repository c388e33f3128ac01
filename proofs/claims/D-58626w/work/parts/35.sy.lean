/-! ===== the system: its object, the machine, the history, the text ===== -/
set_option maxRecDepth 100000
def eMacs (E : eEn) : List Cm → va_W
  | [] => []
  | c :: cs => eMac E c ++ eMacs E cs
theorem eMacs_cons (E : eEn) (c : Cm) (cs : List Cm) : eMacs E (c :: cs) = eMac E c ++ eMacs E cs := rfl
theorem eMacs_nil (E : eEn) : eMacs E [] = [] := rfl
theorem eMacs_app (E : eEn) (as bs : List Cm) : eMacs E (as ++ bs) = eMacs E as ++ eMacs E bs := by
  induction as with
  | nil => rfl
  | cons a as ih => rw [List.cons_append, eMacs_cons, eMacs_cons, ih, List.append_assoc]
abbrev hA (hs : List Cm) : List Nat := hs.map Cm.a
/-- the history with one machine more, four at most -/
def gHist {α : Type} (hs : List α) (m : α) : List α := if hs.length < 4 then hs ++ [m] else (hs ++ [m]).tail
abbrev Sy : Type := Nat × Cm × Nat × Nat × Nat × List Cm × Nat × Nat × Nat × Int32 × List Nat × (Nat → Int32) × List (Nat × Enr)
abbrev Sy.a (g : Sy) : Nat := g.1
abbrev Sy.m (g : Sy) : Cm := g.2.1
abbrev Sy.dq (g : Sy) : Nat := g.2.2.1
abbrev Sy.da (g : Sy) : Nat := g.2.2.2.1
abbrev Sy.dh (g : Sy) : Nat := g.2.2.2.2.1
abbrev Sy.hs (g : Sy) : List Cm := g.2.2.2.2.2.1
abbrev Sy.sb (g : Sy) : Nat := g.2.2.2.2.2.2.1
abbrev Sy.sv (g : Sy) : Nat := g.2.2.2.2.2.2.2.1
abbrev Sy.sN (g : Sy) : Nat := g.2.2.2.2.2.2.2.2.1
abbrev Sy.ml (g : Sy) : Int32 := g.2.2.2.2.2.2.2.2.2.1
abbrev Sy.tx (g : Sy) : List Nat := g.2.2.2.2.2.2.2.2.2.2.1
abbrev Sy.tf (g : Sy) : Nat → Int32 := g.2.2.2.2.2.2.2.2.2.2.2.1
abbrev Sy.S (g : Sy) : List (Nat × Enr) := g.2.2.2.2.2.2.2.2.2.2.2.2

def eSys (E : eEn) (s : Sy) : va_W := eO s.a 0 [.ref s.m.a, .ref s.dq, .ref s.sb] ++ (eMac E s.m ++ (eAD E s.dq s.da s.dh (hA s.hs) ++ (eMacs E s.hs ++ (eSB E s.sb s.sv s.sN s.ml s.tx.length s.tf ++ eSto s.S))))
theorem eSys_mem {E : eEn} {s : Sy} : (s.a, (.inr (0, [.ref s.m.a, .ref s.dq, .ref s.sb]) : va_E)) ∈ eSys E s := List.mem_cons_self
theorem eSys_cut {E : eEn} {s : Sy} : eSys E s = [eO s.a 0 [.ref s.m.a, .ref s.dq, .ref s.sb], eMac E s.m, eAD E s.dq s.da s.dh (hA s.hs), eMacs E s.hs, eSB E s.sb s.sv s.sN s.ml s.tx.length s.tf, eSto s.S].flatten := by simp [eSys]
abbrev As : Type := Am × List Am × List Nat
abbrev As.m (g : As) : Am := g.1
abbrev As.hs (g : As) : List Am := g.2.1
abbrev As.tx (g : As) : List Nat := g.2.2

def Sy.abs (s : Sy) : As := (s.m.abs, s.hs.map Cm.abs, s.tx)
def sTx (s : Sy) : Prop := s.tx.length ≤ 60 ∧ s.tx.length ≤ s.sN ∧ s.sN ≤ 122 ∧ (∀ k, k < s.sN → fits .byte (.int (s.tf k)) = true) ∧ (∀ c ∈ s.tx, 32 ≤ c ∧ c ≤ 126) ∧ ∀ i c, s.tx[i]? = some c → s.tf i = nI c
def sOk (s : Sy) : Prop := gOk s.m.abs ∧ eBkS s.m s.S ∧ (∀ h ∈ s.hs, gOk h.abs ∧ eBkS h s.S) ∧ s.hs.length ≤ 4 ∧ s.dh < 17 ∧ sTx s
def gAct (A : As) (r : Gr) : Int32 × As := match r with
  | .inl code => (code, A)
  | .inr (v, m) => (v, (m, gHist A.hs A.m, A.tx))
theorem gHist_len {α : Type} (hs : List α) (m : α) (h : hs.length ≤ 4) : (gHist hs m).length ≤ 4 := by
  unfold gHist
  split
  · rw [List.length_append]; show hs.length + 1 ≤ 4; omega
  · rw [List.length_tail, List.length_append]; show hs.length + 1 - 1 ≤ 4; omega
theorem gHist_map {α β : Type} (f : α → β) (hs : List α) (m : α) : (gHist hs m).map f = gHist (hs.map f) (f m) := by
  unfold gHist
  rw [List.length_map]
  split
  · rw [List.map_append]; rfl
  · rw [List.map_tail, List.map_append]; rfl
theorem gHist_mem {α : Type} {hs : List α} {m x : α} (h : x ∈ gHist hs m) : x ∈ hs ∨ x = m := by
  unfold gHist at h
  split at h
  · rcases List.mem_append.mp h with h | h
    · exact Or.inl h
    · exact Or.inr (List.mem_singleton.mp h)
  · rcases List.mem_append.mp (List.mem_of_mem_tail h) with h | h
    · exact Or.inl h
    · exact Or.inr (List.mem_singleton.mp h)

/-! orders keep the sizes -/
theorem gSetL_ok {A : Am} {ln : Int32} {l : Lv × List Eg} (h : gOk A) (hl : l.2.length ≤ 8) : gOk (gSetL A ln l) := by
  obtain ⟨h1, h2, h3⟩ := h
  refine ⟨by show (A.ls.set (nN ln) l).length = 4; rw [List.length_set]; exact h1, fun q hq => ?_, h3⟩
  rcases List.mem_or_eq_of_mem_set hq with h | h
  · exact h2 q h
  · rw [h]; exact hl
theorem gL_ok {A : Am} {ln : Int32} (h : gOk A) : (gL A ln).2.length ≤ 8 := by
  unfold gL
  rw [List.getD]
  rcases hx : A.ls[nN ln]? with _ | q
  · simp
  · exact h.2.1 q (List.mem_of_getElem? hx)
theorem gOne_ok {A A2 : Am} {ok : Bool} {ln r : Int32} {f : Lv → Int32} {g : Lv → Lv} (h : gOk A) (e : gOne A ok ln f g = .inr (r, A2)) : gOk A2 := by
  unfold gOne at e
  split at e
  · cases e; exact gSetL_ok h (gL_ok h)
  · cases e
theorem gSpL_len (sp : Int32) (gs : List Eg) : (gSpL sp gs).2.length = gs.length := by
  induction gs with
  | nil => rfl
  | cons g t ih =>
    cases t with
    | nil => rfl
    | cons k t => show (gSpL sp (k :: t)).2.length + 1 = _; rw [ih]; rfl
theorem gPuts_ok {A A2 : Am} {ln r : Int32} {g : Eg} (h : gOk A) (e : gPuts A ln g = .inr (r, A2)) : gOk A2 := by
  unfold gPuts at e
  split at e
  · split at e
    · rename_i h8
      cases e
      exact gSetL_ok h (by show ((gL A ln).2 ++ [g]).length ≤ 8; rw [List.length_append]; exact h8)
    · cases e
  · cases e
theorem gSpots_ok {A A2 : Am} {ln sp r : Int32} (h : gOk A) (e : gSpots A ln sp = .inr (r, A2)) : gOk A2 := by
  unfold gSpots at e
  split at e
  · split at e
    · cases e
    · cases e
      exact gSetL_ok h (by show (gSpL sp (gL A ln).2).2.length ≤ 8; rw [gSpL_len]; exact gL_ok h)
  · cases e
theorem gRuns_ok {A A2 : Am} {n r : Int32} (h : gOk A) (e : gRuns A n = .inr (r, A2)) : gOk A2 := by
  unfold gRuns at e
  split at e
  · split at e
    · cases hx : gTicks (nN n) (0, A) with
      | mk r9 A9 =>
        rw [hx] at e
        cases e
        have h9 := gTicks_ok (nN n) (0, A) h
        rw [hx] at h9
        exact h9
    · cases e
  · cases e
theorem gSets_ok {A A2 : Am} {w v r : Int32} (h : gOk A) (e : gSets A w v = .inr (r, A2)) : gOk A2 := by
  unfold gSets at e
  by_cases hw : eBt w 0 3 = true
  · rw [if_pos hw] at e
    by_cases hv : eBt v (if w = 0 ∨ w = 1 then 1 else 0) (if w = 0 ∨ w = 3 then 8 else 9) = true
    · rw [if_pos hv] at e
      cases e
      obtain ⟨h1, h2, h3, h4, h5, h6⟩ := h
      refine ⟨h1, h2, h3, h4, ?_⟩
      obtain ⟨N, hN, rfl⟩ := eBt_N hw
      have hN4 : N < 4 := Nat.lt_succ_of_le hN
      have hnN : nN (nI N) = N := nN_nI (by omega)
      show upd A.st (nN (nI N)) v 0 = _ ∧ _
      rw [hnN]
      by_cases h0 : N = 0
      · subst h0
        rw [if_pos (show nI 0 = 0 ∨ nI 0 = 1 from Or.inl rfl), if_pos (show nI 0 = 0 ∨ nI 0 = 3 from Or.inl rfl)] at hv
        have hb := of_decide_eq_true hv
        show upd A.st 0 v 0 = nI (nN (upd A.st 0 v 0)) ∧ nN (upd A.st 0 v 0) ≤ 100
        rw [show upd A.st 0 v 0 = v from by simp [upd]]
        exact ⟨nI_nN (Int32.le_trans (by decide) hb.1), Nat.le_trans (nN_le (Int32.le_trans (by decide) hb.1) hb.2) (by decide)⟩
      · show upd A.st N v 0 = nI (nN (upd A.st N v 0)) ∧ nN (upd A.st N v 0) ≤ 100
        rw [show upd A.st N v 0 = A.st 0 from by simp [upd, Ne.symm h0]]
        exact ⟨h5, h6⟩
    · rw [if_neg hv] at e; cases e
  · rw [if_neg hw] at e; cases e
theorem gDone_ok {sg r : Int32} {A A2 : Am} {f : Nat → Int32} (h : gOk A) (e : gDone sg A f = .inr (r, A2)) : gOk A2 := by
  unfold gDone at e
  repeat' split at e
  · exact gPuts_ok h e
  · exact gPuts_ok h e
  · exact gSpots_ok h e
  · exact gOne_ok h e
  · exact gOne_ok h e
  · exact gOne_ok h e
  · exact gRuns_ok h e
  · exact gSets_ok h e

set_option maxHeartbeats 4000000 in
theorem m_changed {l : Launch} (hl : l.stackTraces = false) (E : eEn) (a dq da dh sb : Nat) (m c2 : Cm) (hs : List Cm) (r : Int32) (hhl : hs.length ≤ 4) (hdh : dh < 17) : eMet l E yX0_changed (ws_ yX0_changed cX0_changed 3 (some .int)) ({ frames := 3, cells := 0, slots := 0, locals := 65 }) [.ref a, .ref c2.a, .int r] [eO a 0 [.ref m.a, .ref dq, .ref sb], eMac E m, eAD E dq da dh (hA hs), eMacs E hs, eMac E c2] (fun w Γ => w = some (.int r) ∧ ∃ dh2, dh2 < 17 ∧ Γ = [eO a 0 [.ref c2.a, .ref dq, .ref sb], eAD E dq da dh2 (hA (gHist hs m)), eMacs E (gHist hs m), eMac E c2]) := by
  refine eStart (cc := cX0_changed) (nL := 3) (L := [some (.ref a), some (.ref c2.a), some (.int r)]) hl (by decide) rfl (List.forall_mem_cons.mpr ⟨rfl, (List.forall_mem_cons.mpr ⟨rfl, (List.forall_mem_cons.mpr ⟨rfl, (fun _ h => absurd h List.not_mem_nil)⟩)⟩)⟩) (Nat.le_of_ble_eq_true rfl) ?_
  intro x rs C
  show eZ x E (eQ x E (fun w Γ => w = some (.int r) ∧ ∃ dh2, dh2 < 17 ∧ Γ = [eO a 0 [.ref c2.a, .ref dq, .ref sb], eAD E dq da dh2 (hA (gHist hs m)), eMacs E (gHist hs m), eMac E c2]) rs) [eO a 0 [.ref m.a, .ref dq, .ref sb], eMac E m, eAD E dq da dh (hA hs), eMacs E hs, eMac E c2, rs] 0 [some (.ref a), some (.ref c2.a), some (.int r)] [] 0 0
  generalize hQ_ : eQ x E (fun w Γ => w = some (.int r) ∧ ∃ dh2, dh2 < 17 ∧ Γ = [eO a 0 [.ref c2.a, .ref dq, .ref sb], eAD E dq da dh2 (hA (gHist hs m)), eMacs E (gHist hs m), eMac E c2]) rs = Q_
  have hlh : (hA hs).length ≤ 4 := by rw [List.length_map]; exact hhl
  refine z_aload_n C dX0_changed_0 rfl rfl ?_
  refine z_get eK0 0 1 C dX0_changed_1 rfl rfl q400 (eSame1 rfl) (by decide) rfl ?_
  refine z_aload_n C dX0_changed_4 rfl rfl ?_
  refine z_get eK0 0 0 C dX0_changed_5 rfl rfl q399 (eSame1 rfl) (by decide) rfl ?_
  refine z_callV (r := (RJ8, TJ8, 3)) (As := [.ref m.a]) (rest := []) (Δ := [eO a 0 [.ref m.a, .ref dq, .ref sb], eMacs E hs, eMac E c2, rs]) [2, 1] [0, 3, 4, 5] 1 (m_AD_addLast hl E dq da dh (hA hs) hdh (by omega) m.a 1 [.ref m.la, .ref m.ca, .ref m.ba, .ref m.sa, .int m.u.tk, .int m.u.cm, .int m.u.dk, .int m.u.co, .int m.u.wt, .int m.u.lk] (_, _, _) (eMac E m) eMac_mem (show eCl[1]? = some _ from rfl) q1960) C dX0_changed_8 rfl rfl (eIn (i := 2) rfl eAD_mem) rfl rfl q1274 q1275 q1276 q62 q1277 (by decide +kernel) rfl (ePm 6 rfl (by decide +kernel)) rfl rfl ⟨Nat.le_of_ble_eq_true rfl, Nat.le_of_ble_eq_true rfl⟩ (Nat.le_trans eS0 (Nat.le_of_ble_eq_true rfl)) ⟨Nat.le_of_ble_eq_true rfl, Nat.le_of_ble_eq_true rfl⟩ (fun v_ Γ_ hp_ => ?_)
  obtain ⟨rfl, rfl⟩ := hp_
  show eZ x E _ [eAD E dq da dh (hA hs ++ [m.a]), eMac E m, eO a 0 [.ref m.a, .ref dq, .ref sb], eMacs E hs, eMac E c2, rs] 11 [some (.ref a), some (.ref c2.a), some (.int r)] [] 0 0
  refine z_aload_n C dX0_changed_11 rfl rfl ?_
  refine z_get eK0 2 1 C dX0_changed_12 rfl rfl q400 (eSame1 rfl) (by decide) rfl ?_
  refine z_callV (r := (RJ8, TJ8, 3)) (As := []) (rest := []) (Δ := [eMac E m, eO a 0 [.ref m.a, .ref dq, .ref sb], eMacs E hs, eMac E c2, rs]) [0] [1, 2, 3, 4, 5] 0 (m_AD_size hl E dq da dh (hA hs ++ [m.a]) hdh (by rw [List.length_append]; show (hA hs).length + 1 < 8; omega)) C dX0_changed_15 rfl rfl (eIn (i := 0) rfl eAD_mem) rfl rfl q1293 q1043 q1950 q62 q1044 (by decide +kernel) rfl (ePm 6 rfl (by decide +kernel)) rfl rfl ⟨Nat.le_of_ble_eq_true rfl, Nat.le_of_ble_eq_true rfl⟩ (Nat.le_trans eS0 (Nat.le_of_ble_eq_true rfl)) ⟨Nat.le_of_ble_eq_true rfl, Nat.le_of_ble_eq_true rfl⟩ (fun v_ Γ_ hp_ => ?_)
  obtain ⟨rfl, rfl⟩ := hp_
  show eZ x E _ [eAD E dq da dh (hA hs ++ [m.a]), eMac E m, eO a 0 [.ref m.a, .ref dq, .ref sb], eMacs E hs, eMac E c2, rs] 18 [some (.ref a), some (.ref c2.a), some (.int r)] [.int (nI (hA hs ++ [m.a]).length)] 0 0
  have hlen : (hA hs ++ [m.a]).length = hs.length + 1 := by rw [List.length_append, List.length_map]; rfl
  refine z_is (w := nI (hs.length + 1)) (by rw [hlen]) ?_
  refine z_iconst (v := 4) C dX0_changed_18 (by decide) ?_
  refine z_icmp_le 30 C dX0_changed_19 (by decide) (fun h1 => ?_) (fun h1 => ?_)
  · have h4 : hs.length < 4 := by
      rcases Nat.lt_or_ge hs.length 4 with h | h
      · exact h
      · exact absurd (nI_lt (a := 4) (b := hs.length + 1) (by omega) (by omega)) (Int32.not_lt.mpr h1)
    refine z_aload_n C dX0_changed_30 rfl rfl ?_
    refine z_aload_n C dX0_changed_31 rfl rfl ?_
    refine z_put eK0 2 0 (Γ2 := [eAD E dq da dh (hA hs ++ [m.a]), eMac E m, eO a 0 [.ref c2.a, .ref dq, .ref sb], eMacs E hs, eMac E c2, rs]) C dX0_changed_32 rfl rfl q399 (eSame1 rfl) (by decide) rfl rfl rfl rfl (Nat.le_of_ble_eq_true rfl) rfl ?_
    refine z_iload_n C dX0_changed_35 rfl rfl ?_
    refine z_go (Γ' := [eAD E dq da dh (hA (hs ++ [m])), eMac E m, eO a 0 [.ref c2.a, .ref dq, .ref sb], eMacs E hs, eMac E c2, rs]) (by simp [hA]) ?_
    show eZ x E _ [eAD E dq da dh (hA (hs ++ [m])), eMac E m, eO a 0 [.ref c2.a, .ref dq, .ref sb], eMacs E hs, eMac E c2, rs] 36 [some (.ref a), some (.ref c2.a), some (.int r)] [.int r] 0 0
    refine z_pick (Γ' := [eMacs E hs, eMac E m, eAD E dq da dh (hA (hs ++ [m])), eO a 0 [.ref c2.a, .ref dq, .ref sb], eMac E c2, rs]) [3, 1, 0, 2, 4, 5] (ePm 6 rfl (by decide +kernel)) rfl ?_
    refine z_join 2 (b := eMacs E (hs ++ [m])) (by simp [eMacs_app, eMacs_cons, eMacs_nil]) rfl ?_
    show eZ x E _ [eMacs E (hs ++ [m]), eAD E dq da dh (hA (hs ++ [m])), eO a 0 [.ref c2.a, .ref dq, .ref sb], eMac E c2, rs] 36 [some (.ref a), some (.ref c2.a), some (.int r)] [.int r] 0 0
    refine z_pick (Γ' := [eO a 0 [.ref c2.a, .ref dq, .ref sb], eAD E dq da dh (hA (hs ++ [m])), eMacs E (hs ++ [m]), eMac E c2, rs]) [2, 1, 0, 3, 4] (ePm 5 rfl (by decide +kernel)) rfl ?_
    subst hQ_
    exact z_ret (Γ := [eO a 0 [.ref c2.a, .ref dq, .ref sb], eAD E dq da dh (hA (hs ++ [m])), eMacs E (hs ++ [m]), eMac E c2]) C dX0_changed_36 rfl rfl (Nat.le_of_ble_eq_true rfl) (Nat.le_of_ble_eq_true rfl) ⟨rfl, dh, hdh, by rw [gHist, if_pos h4]; try rfl⟩
  · have h4 : ¬ hs.length < 4 := fun h => h1 (nI_le (a := hs.length + 1) (b := 4) (by omega) (by decide))
    rcases hs with _ | ⟨h0, hs⟩
    case nil => exact absurd (by decide) h4
    show eZ x E _ [eAD E dq da dh (h0.a :: (hA hs ++ [m.a])), eMac E m, eO a 0 [.ref m.a, .ref dq, .ref sb], eMacs E (h0 :: hs), eMac E c2, rs] 22 [some (.ref a), some (.ref c2.a), some (.int r)] [] 0 0
    rw [List.length_cons] at hhl h4
    refine z_aload_n C dX0_changed_22 rfl rfl ?_
    refine z_get eK0 2 1 C dX0_changed_23 rfl rfl q400 (eSame1 rfl) (by decide) rfl ?_
    refine z_callV (r := (RJ8, TJ8, 3)) (As := []) (rest := []) (Δ := [eMac E m, eO a 0 [.ref m.a, .ref dq, .ref sb], eMacs E (h0 :: hs), eMac E c2, rs]) [0] [1, 2, 3, 4, 5] 0 (m_AD_removeFirst hl E dq da dh h0.a (hA hs ++ [m.a]) hdh (by rw [List.length_append, List.length_map]; show hs.length + 1 < 8; omega)) C dX0_changed_26 rfl rfl (eIn (i := 0) rfl eAD_mem) rfl rfl q1294 q1295 q1296 q62 q1297 (by decide +kernel) rfl (ePm 6 rfl (by decide +kernel)) rfl rfl ⟨Nat.le_of_ble_eq_true rfl, Nat.le_of_ble_eq_true rfl⟩ (Nat.le_trans eS0 (Nat.le_of_ble_eq_true rfl)) ⟨Nat.le_of_ble_eq_true rfl, Nat.le_of_ble_eq_true rfl⟩ (fun v_ Γ_ hp_ => ?_)
    obtain ⟨rfl, rfl⟩ := hp_
    show eZ x E _ [eAD E dq da (dqT dh 1) (hA hs ++ [m.a]), eMac E m, eO a 0 [.ref m.a, .ref dq, .ref sb], eMacs E (h0 :: hs), eMac E c2, rs] 29 [some (.ref a), some (.ref c2.a), some (.int r)] [.ref h0.a] 0 0
    refine z_pop C dX0_changed_29 rfl ?_
    refine z_aload_n C dX0_changed_30 rfl rfl ?_
    refine z_aload_n C dX0_changed_31 rfl rfl ?_
    refine z_put eK0 2 0 (Γ2 := [eAD E dq da (dqT dh 1) (hA hs ++ [m.a]), eMac E m, eO a 0 [.ref c2.a, .ref dq, .ref sb], eMacs E (h0 :: hs), eMac E c2, rs]) C dX0_changed_32 rfl rfl q399 (eSame1 rfl) (by decide) rfl rfl rfl rfl (Nat.le_of_ble_eq_true rfl) rfl ?_
    refine z_iload_n C dX0_changed_35 rfl rfl ?_
    refine z_go (Γ' := [eAD E dq da (dqT dh 1) (hA (hs ++ [m])), eMac E m, eO a 0 [.ref c2.a, .ref dq, .ref sb], eMacs E (h0 :: hs), eMac E c2, rs]) (by simp [hA]) ?_
    show eZ x E _ [eAD E dq da (dqT dh 1) (hA (hs ++ [m])), eMac E m, eO a 0 [.ref c2.a, .ref dq, .ref sb], eMacs E (h0 :: hs), eMac E c2, rs] 36 [some (.ref a), some (.ref c2.a), some (.int r)] [.int r] 0 0
    refine z_cut 3 (bs := [eMac E h0, eMacs E hs]) rfl (by rw [eMacs_cons]; simp) rfl ?_
    show eZ x E _ [eAD E dq da (dqT dh 1) (hA (hs ++ [m])), eMac E m, eO a 0 [.ref c2.a, .ref dq, .ref sb], eMac E h0, eMacs E hs, eMac E c2, rs] 36 [some (.ref a), some (.ref c2.a), some (.int r)] [.int r] 0 0
    refine z_pick (Γ' := [eMacs E hs, eMac E m, eAD E dq da (dqT dh 1) (hA (hs ++ [m])), eO a 0 [.ref c2.a, .ref dq, .ref sb], eMac E h0, eMac E c2, rs]) [4, 1, 0, 2, 3, 5, 6] (ePm 7 rfl (by decide +kernel)) rfl ?_
    refine z_join 2 (b := eMacs E (hs ++ [m])) (by simp [eMacs_app, eMacs_cons, eMacs_nil]) rfl ?_
    show eZ x E _ [eMacs E (hs ++ [m]), eAD E dq da (dqT dh 1) (hA (hs ++ [m])), eO a 0 [.ref c2.a, .ref dq, .ref sb], eMac E h0, eMac E c2, rs] 36 [some (.ref a), some (.ref c2.a), some (.int r)] [.int r] 0 0
    refine z_pick (Γ' := [eMac E h0, eO a 0 [.ref c2.a, .ref dq, .ref sb], eAD E dq da (dqT dh 1) (hA (hs ++ [m])), eMacs E (hs ++ [m]), eMac E c2, rs]) [3, 2, 1, 0, 4, 5] (ePm 6 rfl (by decide +kernel)) rfl ?_
    refine z_drop ?_
    show eZ x E _ [eO a 0 [.ref c2.a, .ref dq, .ref sb], eAD E dq da (dqT dh 1) (hA (hs ++ [m])), eMacs E (hs ++ [m]), eMac E c2, rs] 36 [some (.ref a), some (.ref c2.a), some (.int r)] [.int r] 0 0
    subst hQ_
    exact z_ret (Γ := [eO a 0 [.ref c2.a, .ref dq, .ref sb], eAD E dq da (dqT dh 1) (hA (hs ++ [m])), eMacs E (hs ++ [m]), eMac E c2]) C dX0_changed_36 rfl rfl (Nat.le_of_ble_eq_true rfl) (Nat.le_of_ble_eq_true rfl) ⟨rfl, dqT dh 1, dqT_lt _ _, by rw [gHist, if_neg (by rw [List.length_cons]; exact h4)]; try rfl⟩

set_option maxHeartbeats 4000000 in
theorem m_act_x {l : Launch} (hl : l.stackTraces = false) (E : eEn) (s : Sy) (hs : sOk s) (na N : Nat) (f : Nat → Int32) (hN : 6 ≤ N) (hN2 : N < 1000) : eMetX l E yX0_act (wsW_ yX0_act cX0_act 5 (some .int) [(12, 23, 24, 13)]) ({ frames := 9, cells := 106, slots := 492, locals := 169 }) [.ref s.a, .int 120, .ref na] [eSys E s, eIA E na N f] (fun w Γ => ∃ s2 : Sy, w = some (.int (gAct s.abs (gDone 120 s.m.abs f)).1) ∧ Γ = [eSys E s2] ∧ s2.abs = (gAct s.abs (gDone 120 s.m.abs f)).2 ∧ sOk s2 ∧ s2.a = s.a) (fun _ _ _ => False) := by
  refine eStartW (cc := cX0_act) (nL := 5) (L := [some (.ref s.a), some (.int 120), some (.ref na), none, none]) hl (by decide) rfl (List.forall_mem_cons.mpr ⟨rfl, (List.forall_mem_cons.mpr ⟨rfl, (List.forall_mem_cons.mpr ⟨rfl, (fun _ h => absurd h List.not_mem_nil)⟩)⟩)⟩) (Nat.le_of_ble_eq_true rfl) ?_
  intro x rs C hT
  show eZ x E (eQX x E (fun w Γ => ∃ s2 : Sy, w = some (.int (gAct s.abs (gDone 120 s.m.abs f)).1) ∧ Γ = [eSys E s2] ∧ s2.abs = (gAct s.abs (gDone 120 s.m.abs f)).2 ∧ sOk s2 ∧ s2.a = s.a) (fun _ _ _ => False) rs) [eSys E s, eIA E na N f, rs] 0 [some (.ref s.a), some (.int 120), some (.ref na), none, none] [] 0 0
  generalize hQ_ : eQX x E (fun w Γ => ∃ s2 : Sy, w = some (.int (gAct s.abs (gDone 120 s.m.abs f)).1) ∧ Γ = [eSys E s2] ∧ s2.abs = (gAct s.abs (gDone 120 s.m.abs f)).2 ∧ sOk s2 ∧ s2.a = s.a) (fun _ _ _ => False) rs = Q_
  obtain ⟨hk1, hk2, hk3, hk4, hk5, hk6⟩ := hs
  refine z_cut 0 (bs := [eO s.a 0 [.ref s.m.a, .ref s.dq, .ref s.sb], eMac E s.m, eAD E s.dq s.da s.dh (hA s.hs), eMacs E s.hs, eSB E s.sb s.sv s.sN s.ml s.tx.length s.tf, eSto s.S]) rfl eSys_cut rfl ?_
  show eZ x E _ [eO s.a 0 [.ref s.m.a, .ref s.dq, .ref s.sb], eMac E s.m, eAD E s.dq s.da s.dh (hA s.hs), eMacs E s.hs, eSB E s.sb s.sv s.sN s.ml s.tx.length s.tf, eSto s.S, eIA E na N f, rs] 0 [some (.ref s.a), some (.int 120), some (.ref na), none, none] [] 0 0
  refine z_new (fs := [.null, .null, .null, .null, .int 0, .int 0, .int 0, .int 0, .int 0, .int 0]) eK1 C dX0_act_0 rfl q101 q102 q50 rfl (Nat.le_of_ble_eq_true rfl) (Nat.le_of_ble_eq_true rfl) (fun o1 => ?_)
  show eZ x E _ [eO s.a 0 [.ref s.m.a, .ref s.dq, .ref s.sb], eMac E s.m, eAD E s.dq s.da s.dh (hA s.hs), eMacs E s.hs, eSB E s.sb s.sv s.sN s.ml s.tx.length s.tf, eSto s.S, eIA E na N f, rs, eO o1 1 [.null, .null, .null, .null, .int 0, .int 0, .int 0, .int 0, .int 0, .int 0]] 3 [some (.ref s.a), some (.int 120), some (.ref na), none, none] [.ref o1] 1 10
  refine z_dup C dX0_act_3 rfl ?_
  refine z_aload_n C dX0_act_4 rfl rfl ?_
  refine z_get eK0 0 0 C dX0_act_5 rfl rfl q399 (eSame1 rfl) (by decide) rfl ?_
  refine z_callI (As := [.ref s.m.a]) (rest := [.ref o1]) (Δ := [eO s.a 0 [.ref s.m.a, .ref s.dq, .ref s.sb], eAD E s.dq s.da s.dh (hA s.hs), eMacs E s.hs, eSB E s.sb s.sv s.sN s.ml s.tx.length s.tf, eIA E na N f, rs]) [8, 1, 5] [0, 2, 3, 4, 6, 7] 1 (m_Machine_init2 hl E o1 s.m s.S hk1 hk2) C dX0_act_8 rfl rfl rfl q419 q420 q50 q421 rfl (by decide +kernel) rfl (ePm 9 rfl (by decide +kernel)) rfl rfl ⟨Nat.le_of_ble_eq_true rfl, Nat.le_of_ble_eq_true rfl⟩ (Nat.le_trans (eSm rfl eS0) (Nat.le_of_ble_eq_true rfl)) ⟨Nat.le_of_ble_eq_true rfl, Nat.le_of_ble_eq_true rfl⟩ (fun v_ Γ_ hp_ => ?_)
  obtain ⟨rfl, c2, rfl, hca, hab, hS2⟩ := hp_
  show eZ x E _ [eMac E c2, eMac E s.m, eSto s.S, eO s.a 0 [.ref s.m.a, .ref s.dq, .ref s.sb], eAD E s.dq s.da s.dh (hA s.hs), eMacs E s.hs, eSB E s.sb s.sv s.sN s.ml s.tx.length s.tf, eIA E na N f, rs] 11 [some (.ref s.a), some (.int 120), some (.ref na), none, none] [.ref o1] 102 469
  subst hca
  have hok2 : gOk c2.abs := by rw [hab]; exact hk1
  show eZ x E _ [eMac E c2, eMac E s.m, eSto s.S, eO s.a 0 [.ref s.m.a, .ref s.dq, .ref s.sb], eAD E s.dq s.da s.dh (hA s.hs), eMacs E s.hs, eSB E s.sb s.sv s.sN s.ml s.tx.length s.tf, eIA E na N f, rs] 11 [some (.ref s.a), some (.int 120), some (.ref na), none, none] [.ref c2.a] 102 469
  refine z_astore_n (L2 := [some (.ref s.a), some (.int 120), some (.ref na), some (.ref c2.a), none]) C dX0_act_11 rfl (Nat.le_of_ble_eq_true rfl) rfl ?_
  refine z_aload_n C dX0_act_12 rfl rfl ?_
  refine z_aload_n C dX0_act_13 rfl rfl ?_
  refine z_aload_n C dX0_act_14 rfl rfl ?_
  refine z_iload_n C dX0_act_15 rfl rfl ?_
  refine z_aload_n C dX0_act_16 rfl rfl ?_
  refine z_callSX (As := [.ref c2.a, .int 120, .ref na]) (rest := [.ref c2.a, .ref s.a]) (Δ := [eMac E s.m, eO s.a 0 [.ref s.m.a, .ref s.dq, .ref s.sb], eAD E s.dq s.da s.dh (hA s.hs), eMacs E s.hs, eSB E s.sb s.sv s.sN s.ml s.tx.length s.tf, rs]) [0, 7, 2] [1, 3, 4, 5, 6, 8] 3 (m_done_x hl E c2 s.S hok2 hS2 na N f hN hN2) C dX0_act_17 rfl rfl rfl q973 q974 q49 q975 (by decide +kernel) rfl (ePm 9 rfl (by decide +kernel)) rfl rfl ⟨Nat.le_of_ble_eq_true rfl, Nat.le_of_ble_eq_true rfl⟩ (Nat.le_trans (eSm rfl (eSm rfl eS0)) (Nat.le_of_ble_eq_true rfl)) ⟨Nat.le_of_ble_eq_true rfl, Nat.le_of_ble_eq_true rfl⟩ (fun q_ En_ Γ_ hx_ => ?_) (fun v_ Γ_ hp_ => ?_)
  · obtain ⟨code, he, rfl, r1, r2, rfl⟩ := hx_
    show eY x E _ [eRfB E q_ code r1 r2, eMac E c2, eIA E na N f, eSto s.S, eMac E s.m, eO s.a 0 [.ref s.m.a, .ref s.dq, .ref s.sb], eAD E s.dq s.da s.dh (hA s.hs), eMacs E s.hs, eSB E s.sb s.sv s.sN s.ml s.tx.length s.tf, rs] 17 [some (.ref s.a), some (.int 120), some (.ref na), some (.ref c2.a), none] [.ref c2.a, .ref s.a] q_ 106 492
    show eY x E _ [eO q_ 6 [.ref q_, va_rf r1, va_rf r2, .ref (E.2.2.2 12), .null, .int 0, .int code], eMac E c2, eIA E na N f, eSto s.S, eMac E s.m, eO s.a 0 [.ref s.m.a, .ref s.dq, .ref s.sb], eAD E s.dq s.da s.dh (hA s.hs), eMacs E s.hs, eSB E s.sb s.sv s.sN s.ml s.tx.length s.tf, rs] 17 [some (.ref s.a), some (.int 120), some (.ref na), some (.ref c2.a), none] [.ref c2.a, .ref s.a] q_ 106 492
    refine z_catch C hT (by decide) (by decide) rfl q418 q1005 (eIn (i := 0) rfl List.mem_cons_self) (show eCl[6]? = some _ from rfl) ?_
    show eZ x E _ [eO q_ 6 [.ref q_, va_rf r1, va_rf r2, .ref (E.2.2.2 12), .null, .int 0, .int code], eMac E c2, eIA E na N f, eSto s.S, eMac E s.m, eO s.a 0 [.ref s.m.a, .ref s.dq, .ref s.sb], eAD E s.dq s.da s.dh (hA s.hs), eMacs E s.hs, eSB E s.sb s.sv s.sN s.ml s.tx.length s.tf, rs] 24 [some (.ref s.a), some (.int 120), some (.ref na), some (.ref c2.a), none] [.ref q_] 106 492
    refine z_astore (L2 := [some (.ref s.a), some (.int 120), some (.ref na), some (.ref c2.a), some (.ref q_)]) C dX0_act_24 (Nat.le_of_ble_eq_true rfl) rfl ?_
    refine z_aload C dX0_act_26 rfl ?_
    refine z_getN eK6 0 6 C dX0_act_28 rfl rfl q1024 (eSame1 rfl) (by decide) rfl ?_
    refine z_pick (Γ' := [eO s.a 0 [.ref s.m.a, .ref s.dq, .ref s.sb], eMac E s.m, eAD E s.dq s.da s.dh (hA s.hs), eMacs E s.hs, eSB E s.sb s.sv s.sN s.ml s.tx.length s.tf, eSto s.S, eO q_ 6 [.ref q_, va_rf r1, va_rf r2, .ref (E.2.2.2 12), .null, .int 0, .int code], eMac E c2, eIA E na N f, rs]) [5, 4, 6, 7, 8, 3, 0, 1, 2, 9] (ePm 10 rfl (by decide +kernel)) rfl ?_
    refine z_join 6 (b := eSys E s) eSys_cut.symm rfl ?_
    show eZ x E _ [eSys E s, eO q_ 6 [.ref q_, va_rf r1, va_rf r2, .ref (E.2.2.2 12), .null, .int 0, .int code], eMac E c2, eIA E na N f, rs] 31 [some (.ref s.a), some (.int 120), some (.ref na), some (.ref c2.a), some (.ref q_)] [.int code] 106 492
    refine z_pick (Γ' := [eO q_ 6 [.ref q_, va_rf r1, va_rf r2, .ref (E.2.2.2 12), .null, .int 0, .int code], eMac E c2, eIA E na N f, eSys E s, rs]) [1, 2, 3, 0, 4] (ePm 5 rfl (by decide +kernel)) rfl ?_
    refine z_drop ?_
    refine z_drop ?_
    refine z_drop ?_
    show eZ x E _ [eSys E s, rs] 31 [some (.ref s.a), some (.int 120), some (.ref na), some (.ref c2.a), some (.ref q_)] [.int code] 106 492
    subst hQ_
    refine z_X ?_
    exact z_ret (Γ := [eSys E s]) C dX0_act_31 rfl rfl (Nat.le_of_ble_eq_true rfl) (Nat.le_of_ble_eq_true rfl) ⟨s, by rw [← hab, he]; rfl, rfl, by rw [← hab, he]; rfl, ⟨hk1, hk2, hk3, hk4, hk5, hk6⟩, rfl⟩
  obtain ⟨r, A2, c3, S3, he, rfl, rfl, ha3, hca3, hS3, hSS⟩ := hp_
  show eZ x E _ [eMac E c3, eIA E na N f, eSto S3, eMac E s.m, eO s.a 0 [.ref s.m.a, .ref s.dq, .ref s.sb], eAD E s.dq s.da s.dh (hA s.hs), eMacs E s.hs, eSB E s.sb s.sv s.sN s.ml s.tx.length s.tf, rs] 20 [some (.ref s.a), some (.int 120), some (.ref na), some (.ref c2.a), none] [.int r, .ref c2.a, .ref s.a] 106 492
  rw [show c2.a = c3.a from hca3.symm]
  show eZ x E _ [eMac E c3, eIA E na N f, eSto S3, eMac E s.m, eO s.a 0 [.ref s.m.a, .ref s.dq, .ref s.sb], eAD E s.dq s.da s.dh (hA s.hs), eMacs E s.hs, eSB E s.sb s.sv s.sN s.ml s.tx.length s.tf, rs] 20 [some (.ref s.a), some (.int 120), some (.ref na), some (.ref c3.a), none] [.int r, .ref c3.a, .ref s.a] 106 492
  refine z_callV (r := (RX0, TX0, 3)) (As := [.ref c3.a, .int r]) (rest := []) (Δ := [eIA E na N f, eSto S3, eSB E s.sb s.sv s.sN s.ml s.tx.length s.tf, rs]) [4, 3, 5, 6, 0] [1, 2, 7, 8] 2 (m_changed hl E s.a s.dq s.da s.dh s.sb s.m c3 s.hs r hk4 hk5) C dX0_act_20 rfl rfl (eIn (i := 4) rfl List.mem_cons_self) rfl rfl q1270 q1272 qs18 q49 q1273 (by decide +kernel) rfl (ePm 9 rfl (by decide +kernel)) rfl rfl ⟨Nat.le_of_ble_eq_true rfl, Nat.le_of_ble_eq_true rfl⟩ (Nat.le_trans eS0 (Nat.le_of_ble_eq_true rfl)) ⟨Nat.le_of_ble_eq_true rfl, Nat.le_of_ble_eq_true rfl⟩ (fun v_ Γ_ hp_ => ?_)
  obtain ⟨rfl, dh2, hdh2, rfl⟩ := hp_
  show eZ x E _ [eO s.a 0 [.ref c3.a, .ref s.dq, .ref s.sb], eAD E s.dq s.da dh2 (hA (gHist s.hs s.m)), eMacs E (gHist s.hs s.m), eMac E c3, eIA E na N f, eSto S3, eSB E s.sb s.sv s.sN s.ml s.tx.length s.tf, rs] 23 [some (.ref s.a), some (.int 120), some (.ref na), some (.ref c3.a), none] [.int r] 106 492
  refine z_pick (Γ' := [eO s.a 0 [.ref c3.a, .ref s.dq, .ref s.sb], eMac E c3, eAD E s.dq s.da dh2 (hA (gHist s.hs s.m)), eMacs E (gHist s.hs s.m), eSB E s.sb s.sv s.sN s.ml s.tx.length s.tf, eSto S3, eIA E na N f, rs]) [0, 3, 1, 2, 6, 5, 4, 7] (ePm 8 rfl (by decide +kernel)) rfl ?_
  refine z_join 6 (b := eSys E (s.a, c3, s.dq, s.da, dh2, gHist s.hs s.m, s.sb, s.sv, s.sN, s.ml, s.tx, s.tf, S3)) (by rw [eSys_cut]; rfl) rfl ?_
  show eZ x E _ [eSys E (s.a, c3, s.dq, s.da, dh2, gHist s.hs s.m, s.sb, s.sv, s.sN, s.ml, s.tx, s.tf, S3), eIA E na N f, rs] 23 [some (.ref s.a), some (.int 120), some (.ref na), some (.ref c3.a), none] [.int r] 106 492
  have hre : gDone 120 s.m.abs f = .inr (r, A2) := by rw [← hab]; exact he
  have hokA : gOk A2 := gDone_ok hk1 hre
  refine z_pick (Γ' := [eIA E na N f, eSys E (s.a, c3, s.dq, s.da, dh2, gHist s.hs s.m, s.sb, s.sv, s.sN, s.ml, s.tx, s.tf, S3), rs]) [1, 0, 2] (ePm 3 rfl (by decide +kernel)) rfl ?_
  refine z_drop ?_
  show eZ x E _ [eSys E (s.a, c3, s.dq, s.da, dh2, gHist s.hs s.m, s.sb, s.sv, s.sN, s.ml, s.tx, s.tf, S3), rs] 23 [some (.ref s.a), some (.int 120), some (.ref na), some (.ref c3.a), none] [.int r] 106 492
  subst hQ_
  refine z_X ?_
  exact z_ret (Γ := [eSys E (s.a, c3, s.dq, s.da, dh2, gHist s.hs s.m, s.sb, s.sv, s.sN, s.ml, s.tx, s.tf, S3)]) C dX0_act_23 rfl rfl (Nat.le_of_ble_eq_true rfl) (Nat.le_of_ble_eq_true rfl) ⟨(s.a, c3, s.dq, s.da, dh2, gHist s.hs s.m, s.sb, s.sv, s.sN, s.ml, s.tx, s.tf, S3), by rw [hre]; rfl, rfl, by rw [hre]; show ((c3.abs, (gHist s.hs s.m).map Cm.abs, s.tx) : As) = (A2, gHist (s.hs.map Cm.abs) s.m.abs, s.tx); rw [ha3, gHist_map], ⟨by rw [show Sy.m (s.a, c3, s.dq, s.da, dh2, gHist s.hs s.m, s.sb, s.sv, s.sN, s.ml, s.tx, s.tf, S3) = c3 from rfl, ha3]; exact hokA, hS3, fun h hh => by rcases gHist_mem hh with h9 | h9; exact ⟨(hk3 h h9).1, fun z hz => hSS _ ((hk3 h h9).2 z hz)⟩; subst h9; exact ⟨hk1, fun z hz => hSS _ (hk2 z hz)⟩, gHist_len _ _ hk4, hdh2, hk6⟩, rfl⟩

set_option maxHeartbeats 4000000 in
theorem m_act_s {l : Launch} (hl : l.stackTraces = false) (E : eEn) (s : Sy) (hs : sOk s) (na N : Nat) (f : Nat → Int32) (hN : 2 ≤ N) (hN2 : N < 1000) : eMetX l E yX0_act (wsW_ yX0_act cX0_act 5 (some .int) [(12, 23, 24, 13)]) ({ frames := 9, cells := 106, slots := 492, locals := 169 }) [.ref s.a, .int 115, .ref na] [eSys E s, eIA E na N f] (fun w Γ => ∃ s2 : Sy, w = some (.int (gAct s.abs (gDone 115 s.m.abs f)).1) ∧ Γ = [eSys E s2] ∧ s2.abs = (gAct s.abs (gDone 115 s.m.abs f)).2 ∧ sOk s2 ∧ s2.a = s.a) (fun _ _ _ => False) := by
  refine eStartW (cc := cX0_act) (nL := 5) (L := [some (.ref s.a), some (.int 115), some (.ref na), none, none]) hl (by decide) rfl (List.forall_mem_cons.mpr ⟨rfl, (List.forall_mem_cons.mpr ⟨rfl, (List.forall_mem_cons.mpr ⟨rfl, (fun _ h => absurd h List.not_mem_nil)⟩)⟩)⟩) (Nat.le_of_ble_eq_true rfl) ?_
  intro x rs C hT
  show eZ x E (eQX x E (fun w Γ => ∃ s2 : Sy, w = some (.int (gAct s.abs (gDone 115 s.m.abs f)).1) ∧ Γ = [eSys E s2] ∧ s2.abs = (gAct s.abs (gDone 115 s.m.abs f)).2 ∧ sOk s2 ∧ s2.a = s.a) (fun _ _ _ => False) rs) [eSys E s, eIA E na N f, rs] 0 [some (.ref s.a), some (.int 115), some (.ref na), none, none] [] 0 0
  generalize hQ_ : eQX x E (fun w Γ => ∃ s2 : Sy, w = some (.int (gAct s.abs (gDone 115 s.m.abs f)).1) ∧ Γ = [eSys E s2] ∧ s2.abs = (gAct s.abs (gDone 115 s.m.abs f)).2 ∧ sOk s2 ∧ s2.a = s.a) (fun _ _ _ => False) rs = Q_
  obtain ⟨hk1, hk2, hk3, hk4, hk5, hk6⟩ := hs
  refine z_cut 0 (bs := [eO s.a 0 [.ref s.m.a, .ref s.dq, .ref s.sb], eMac E s.m, eAD E s.dq s.da s.dh (hA s.hs), eMacs E s.hs, eSB E s.sb s.sv s.sN s.ml s.tx.length s.tf, eSto s.S]) rfl eSys_cut rfl ?_
  show eZ x E _ [eO s.a 0 [.ref s.m.a, .ref s.dq, .ref s.sb], eMac E s.m, eAD E s.dq s.da s.dh (hA s.hs), eMacs E s.hs, eSB E s.sb s.sv s.sN s.ml s.tx.length s.tf, eSto s.S, eIA E na N f, rs] 0 [some (.ref s.a), some (.int 115), some (.ref na), none, none] [] 0 0
  refine z_new (fs := [.null, .null, .null, .null, .int 0, .int 0, .int 0, .int 0, .int 0, .int 0]) eK1 C dX0_act_0 rfl q101 q102 q50 rfl (Nat.le_of_ble_eq_true rfl) (Nat.le_of_ble_eq_true rfl) (fun o1 => ?_)
  show eZ x E _ [eO s.a 0 [.ref s.m.a, .ref s.dq, .ref s.sb], eMac E s.m, eAD E s.dq s.da s.dh (hA s.hs), eMacs E s.hs, eSB E s.sb s.sv s.sN s.ml s.tx.length s.tf, eSto s.S, eIA E na N f, rs, eO o1 1 [.null, .null, .null, .null, .int 0, .int 0, .int 0, .int 0, .int 0, .int 0]] 3 [some (.ref s.a), some (.int 115), some (.ref na), none, none] [.ref o1] 1 10
  refine z_dup C dX0_act_3 rfl ?_
  refine z_aload_n C dX0_act_4 rfl rfl ?_
  refine z_get eK0 0 0 C dX0_act_5 rfl rfl q399 (eSame1 rfl) (by decide) rfl ?_
  refine z_callI (As := [.ref s.m.a]) (rest := [.ref o1]) (Δ := [eO s.a 0 [.ref s.m.a, .ref s.dq, .ref s.sb], eAD E s.dq s.da s.dh (hA s.hs), eMacs E s.hs, eSB E s.sb s.sv s.sN s.ml s.tx.length s.tf, eIA E na N f, rs]) [8, 1, 5] [0, 2, 3, 4, 6, 7] 1 (m_Machine_init2 hl E o1 s.m s.S hk1 hk2) C dX0_act_8 rfl rfl rfl q419 q420 q50 q421 rfl (by decide +kernel) rfl (ePm 9 rfl (by decide +kernel)) rfl rfl ⟨Nat.le_of_ble_eq_true rfl, Nat.le_of_ble_eq_true rfl⟩ (Nat.le_trans (eSm rfl eS0) (Nat.le_of_ble_eq_true rfl)) ⟨Nat.le_of_ble_eq_true rfl, Nat.le_of_ble_eq_true rfl⟩ (fun v_ Γ_ hp_ => ?_)
  obtain ⟨rfl, c2, rfl, hca, hab, hS2⟩ := hp_
  show eZ x E _ [eMac E c2, eMac E s.m, eSto s.S, eO s.a 0 [.ref s.m.a, .ref s.dq, .ref s.sb], eAD E s.dq s.da s.dh (hA s.hs), eMacs E s.hs, eSB E s.sb s.sv s.sN s.ml s.tx.length s.tf, eIA E na N f, rs] 11 [some (.ref s.a), some (.int 115), some (.ref na), none, none] [.ref o1] 102 469
  subst hca
  have hok2 : gOk c2.abs := by rw [hab]; exact hk1
  show eZ x E _ [eMac E c2, eMac E s.m, eSto s.S, eO s.a 0 [.ref s.m.a, .ref s.dq, .ref s.sb], eAD E s.dq s.da s.dh (hA s.hs), eMacs E s.hs, eSB E s.sb s.sv s.sN s.ml s.tx.length s.tf, eIA E na N f, rs] 11 [some (.ref s.a), some (.int 115), some (.ref na), none, none] [.ref c2.a] 102 469
  refine z_astore_n (L2 := [some (.ref s.a), some (.int 115), some (.ref na), some (.ref c2.a), none]) C dX0_act_11 rfl (Nat.le_of_ble_eq_true rfl) rfl ?_
  refine z_aload_n C dX0_act_12 rfl rfl ?_
  refine z_aload_n C dX0_act_13 rfl rfl ?_
  refine z_aload_n C dX0_act_14 rfl rfl ?_
  refine z_iload_n C dX0_act_15 rfl rfl ?_
  refine z_aload_n C dX0_act_16 rfl rfl ?_
  refine z_callSX (As := [.ref c2.a, .int 115, .ref na]) (rest := [.ref c2.a, .ref s.a]) (Δ := [eMac E s.m, eO s.a 0 [.ref s.m.a, .ref s.dq, .ref s.sb], eAD E s.dq s.da s.dh (hA s.hs), eMacs E s.hs, eSB E s.sb s.sv s.sN s.ml s.tx.length s.tf, rs]) [0, 7, 2] [1, 3, 4, 5, 6, 8] 3 (m_done_s hl E c2 s.S hok2 hS2 na N f hN hN2) C dX0_act_17 rfl rfl rfl q973 q974 q49 q975 (by decide +kernel) rfl (ePm 9 rfl (by decide +kernel)) rfl rfl ⟨Nat.le_of_ble_eq_true rfl, Nat.le_of_ble_eq_true rfl⟩ (Nat.le_trans (eSm rfl (eSm rfl eS0)) (Nat.le_of_ble_eq_true rfl)) ⟨Nat.le_of_ble_eq_true rfl, Nat.le_of_ble_eq_true rfl⟩ (fun q_ En_ Γ_ hx_ => ?_) (fun v_ Γ_ hp_ => ?_)
  · obtain ⟨code, he, rfl, r1, r2, rfl⟩ := hx_
    show eY x E _ [eRfB E q_ code r1 r2, eMac E c2, eIA E na N f, eSto s.S, eMac E s.m, eO s.a 0 [.ref s.m.a, .ref s.dq, .ref s.sb], eAD E s.dq s.da s.dh (hA s.hs), eMacs E s.hs, eSB E s.sb s.sv s.sN s.ml s.tx.length s.tf, rs] 17 [some (.ref s.a), some (.int 115), some (.ref na), some (.ref c2.a), none] [.ref c2.a, .ref s.a] q_ 104 483
    show eY x E _ [eO q_ 6 [.ref q_, va_rf r1, va_rf r2, .ref (E.2.2.2 12), .null, .int 0, .int code], eMac E c2, eIA E na N f, eSto s.S, eMac E s.m, eO s.a 0 [.ref s.m.a, .ref s.dq, .ref s.sb], eAD E s.dq s.da s.dh (hA s.hs), eMacs E s.hs, eSB E s.sb s.sv s.sN s.ml s.tx.length s.tf, rs] 17 [some (.ref s.a), some (.int 115), some (.ref na), some (.ref c2.a), none] [.ref c2.a, .ref s.a] q_ 104 483
    refine z_catch C hT (by decide) (by decide) rfl q418 q1005 (eIn (i := 0) rfl List.mem_cons_self) (show eCl[6]? = some _ from rfl) ?_
    show eZ x E _ [eO q_ 6 [.ref q_, va_rf r1, va_rf r2, .ref (E.2.2.2 12), .null, .int 0, .int code], eMac E c2, eIA E na N f, eSto s.S, eMac E s.m, eO s.a 0 [.ref s.m.a, .ref s.dq, .ref s.sb], eAD E s.dq s.da s.dh (hA s.hs), eMacs E s.hs, eSB E s.sb s.sv s.sN s.ml s.tx.length s.tf, rs] 24 [some (.ref s.a), some (.int 115), some (.ref na), some (.ref c2.a), none] [.ref q_] 104 483
    refine z_astore (L2 := [some (.ref s.a), some (.int 115), some (.ref na), some (.ref c2.a), some (.ref q_)]) C dX0_act_24 (Nat.le_of_ble_eq_true rfl) rfl ?_
    refine z_aload C dX0_act_26 rfl ?_
    refine z_getN eK6 0 6 C dX0_act_28 rfl rfl q1024 (eSame1 rfl) (by decide) rfl ?_
    refine z_pick (Γ' := [eO s.a 0 [.ref s.m.a, .ref s.dq, .ref s.sb], eMac E s.m, eAD E s.dq s.da s.dh (hA s.hs), eMacs E s.hs, eSB E s.sb s.sv s.sN s.ml s.tx.length s.tf, eSto s.S, eO q_ 6 [.ref q_, va_rf r1, va_rf r2, .ref (E.2.2.2 12), .null, .int 0, .int code], eMac E c2, eIA E na N f, rs]) [5, 4, 6, 7, 8, 3, 0, 1, 2, 9] (ePm 10 rfl (by decide +kernel)) rfl ?_
    refine z_join 6 (b := eSys E s) eSys_cut.symm rfl ?_
    show eZ x E _ [eSys E s, eO q_ 6 [.ref q_, va_rf r1, va_rf r2, .ref (E.2.2.2 12), .null, .int 0, .int code], eMac E c2, eIA E na N f, rs] 31 [some (.ref s.a), some (.int 115), some (.ref na), some (.ref c2.a), some (.ref q_)] [.int code] 104 483
    refine z_pick (Γ' := [eO q_ 6 [.ref q_, va_rf r1, va_rf r2, .ref (E.2.2.2 12), .null, .int 0, .int code], eMac E c2, eIA E na N f, eSys E s, rs]) [1, 2, 3, 0, 4] (ePm 5 rfl (by decide +kernel)) rfl ?_
    refine z_drop ?_
    refine z_drop ?_
    refine z_drop ?_
    show eZ x E _ [eSys E s, rs] 31 [some (.ref s.a), some (.int 115), some (.ref na), some (.ref c2.a), some (.ref q_)] [.int code] 104 483
    subst hQ_
    refine z_X ?_
    exact z_ret (Γ := [eSys E s]) C dX0_act_31 rfl rfl (Nat.le_of_ble_eq_true rfl) (Nat.le_of_ble_eq_true rfl) ⟨s, by rw [← hab, he]; rfl, rfl, by rw [← hab, he]; rfl, ⟨hk1, hk2, hk3, hk4, hk5, hk6⟩, rfl⟩
  obtain ⟨r, A2, c3, S3, he, rfl, rfl, ha3, hca3, hS3, hSS⟩ := hp_
  show eZ x E _ [eMac E c3, eIA E na N f, eSto S3, eMac E s.m, eO s.a 0 [.ref s.m.a, .ref s.dq, .ref s.sb], eAD E s.dq s.da s.dh (hA s.hs), eMacs E s.hs, eSB E s.sb s.sv s.sN s.ml s.tx.length s.tf, rs] 20 [some (.ref s.a), some (.int 115), some (.ref na), some (.ref c2.a), none] [.int r, .ref c2.a, .ref s.a] 104 483
  rw [show c2.a = c3.a from hca3.symm]
  show eZ x E _ [eMac E c3, eIA E na N f, eSto S3, eMac E s.m, eO s.a 0 [.ref s.m.a, .ref s.dq, .ref s.sb], eAD E s.dq s.da s.dh (hA s.hs), eMacs E s.hs, eSB E s.sb s.sv s.sN s.ml s.tx.length s.tf, rs] 20 [some (.ref s.a), some (.int 115), some (.ref na), some (.ref c3.a), none] [.int r, .ref c3.a, .ref s.a] 104 483
  refine z_callV (r := (RX0, TX0, 3)) (As := [.ref c3.a, .int r]) (rest := []) (Δ := [eIA E na N f, eSto S3, eSB E s.sb s.sv s.sN s.ml s.tx.length s.tf, rs]) [4, 3, 5, 6, 0] [1, 2, 7, 8] 2 (m_changed hl E s.a s.dq s.da s.dh s.sb s.m c3 s.hs r hk4 hk5) C dX0_act_20 rfl rfl (eIn (i := 4) rfl List.mem_cons_self) rfl rfl q1270 q1272 qs18 q49 q1273 (by decide +kernel) rfl (ePm 9 rfl (by decide +kernel)) rfl rfl ⟨Nat.le_of_ble_eq_true rfl, Nat.le_of_ble_eq_true rfl⟩ (Nat.le_trans eS0 (Nat.le_of_ble_eq_true rfl)) ⟨Nat.le_of_ble_eq_true rfl, Nat.le_of_ble_eq_true rfl⟩ (fun v_ Γ_ hp_ => ?_)
  obtain ⟨rfl, dh2, hdh2, rfl⟩ := hp_
  show eZ x E _ [eO s.a 0 [.ref c3.a, .ref s.dq, .ref s.sb], eAD E s.dq s.da dh2 (hA (gHist s.hs s.m)), eMacs E (gHist s.hs s.m), eMac E c3, eIA E na N f, eSto S3, eSB E s.sb s.sv s.sN s.ml s.tx.length s.tf, rs] 23 [some (.ref s.a), some (.int 115), some (.ref na), some (.ref c3.a), none] [.int r] 104 483
  refine z_pick (Γ' := [eO s.a 0 [.ref c3.a, .ref s.dq, .ref s.sb], eMac E c3, eAD E s.dq s.da dh2 (hA (gHist s.hs s.m)), eMacs E (gHist s.hs s.m), eSB E s.sb s.sv s.sN s.ml s.tx.length s.tf, eSto S3, eIA E na N f, rs]) [0, 3, 1, 2, 6, 5, 4, 7] (ePm 8 rfl (by decide +kernel)) rfl ?_
  refine z_join 6 (b := eSys E (s.a, c3, s.dq, s.da, dh2, gHist s.hs s.m, s.sb, s.sv, s.sN, s.ml, s.tx, s.tf, S3)) (by rw [eSys_cut]; rfl) rfl ?_
  show eZ x E _ [eSys E (s.a, c3, s.dq, s.da, dh2, gHist s.hs s.m, s.sb, s.sv, s.sN, s.ml, s.tx, s.tf, S3), eIA E na N f, rs] 23 [some (.ref s.a), some (.int 115), some (.ref na), some (.ref c3.a), none] [.int r] 104 483
  have hre : gDone 115 s.m.abs f = .inr (r, A2) := by rw [← hab]; exact he
  have hokA : gOk A2 := gDone_ok hk1 hre
  refine z_pick (Γ' := [eIA E na N f, eSys E (s.a, c3, s.dq, s.da, dh2, gHist s.hs s.m, s.sb, s.sv, s.sN, s.ml, s.tx, s.tf, S3), rs]) [1, 0, 2] (ePm 3 rfl (by decide +kernel)) rfl ?_
  refine z_drop ?_
  show eZ x E _ [eSys E (s.a, c3, s.dq, s.da, dh2, gHist s.hs s.m, s.sb, s.sv, s.sN, s.ml, s.tx, s.tf, S3), rs] 23 [some (.ref s.a), some (.int 115), some (.ref na), some (.ref c3.a), none] [.int r] 104 483
  subst hQ_
  refine z_X ?_
  exact z_ret (Γ := [eSys E (s.a, c3, s.dq, s.da, dh2, gHist s.hs s.m, s.sb, s.sv, s.sN, s.ml, s.tx, s.tf, S3)]) C dX0_act_23 rfl rfl (Nat.le_of_ble_eq_true rfl) (Nat.le_of_ble_eq_true rfl) ⟨(s.a, c3, s.dq, s.da, dh2, gHist s.hs s.m, s.sb, s.sv, s.sN, s.ml, s.tx, s.tf, S3), by rw [hre]; rfl, rfl, by rw [hre]; show ((c3.abs, (gHist s.hs s.m).map Cm.abs, s.tx) : As) = (A2, gHist (s.hs.map Cm.abs) s.m.abs, s.tx); rw [ha3, gHist_map], ⟨by rw [show Sy.m (s.a, c3, s.dq, s.da, dh2, gHist s.hs s.m, s.sb, s.sv, s.sN, s.ml, s.tx, s.tf, S3) = c3 from rfl, ha3]; exact hokA, hS3, fun h hh => by rcases gHist_mem hh with h9 | h9; exact ⟨(hk3 h h9).1, fun z hz => hSS _ ((hk3 h h9).2 z hz)⟩; subst h9; exact ⟨hk1, fun z hz => hSS _ (hk2 z hz)⟩, gHist_len _ _ hk4, hdh2, hk6⟩, rfl⟩

set_option maxHeartbeats 4000000 in
theorem m_act_l {l : Launch} (hl : l.stackTraces = false) (E : eEn) (s : Sy) (hs : sOk s) (na N : Nat) (f : Nat → Int32) (hN : 2 ≤ N) (hN2 : N < 1000) : eMetX l E yX0_act (wsW_ yX0_act cX0_act 5 (some .int) [(12, 23, 24, 13)]) ({ frames := 9, cells := 106, slots := 492, locals := 169 }) [.ref s.a, .int 108, .ref na] [eSys E s, eIA E na N f] (fun w Γ => ∃ s2 : Sy, w = some (.int (gAct s.abs (gDone 108 s.m.abs f)).1) ∧ Γ = [eSys E s2] ∧ s2.abs = (gAct s.abs (gDone 108 s.m.abs f)).2 ∧ sOk s2 ∧ s2.a = s.a) (fun _ _ _ => False) := by
  refine eStartW (cc := cX0_act) (nL := 5) (L := [some (.ref s.a), some (.int 108), some (.ref na), none, none]) hl (by decide) rfl (List.forall_mem_cons.mpr ⟨rfl, (List.forall_mem_cons.mpr ⟨rfl, (List.forall_mem_cons.mpr ⟨rfl, (fun _ h => absurd h List.not_mem_nil)⟩)⟩)⟩) (Nat.le_of_ble_eq_true rfl) ?_
  intro x rs C hT
  show eZ x E (eQX x E (fun w Γ => ∃ s2 : Sy, w = some (.int (gAct s.abs (gDone 108 s.m.abs f)).1) ∧ Γ = [eSys E s2] ∧ s2.abs = (gAct s.abs (gDone 108 s.m.abs f)).2 ∧ sOk s2 ∧ s2.a = s.a) (fun _ _ _ => False) rs) [eSys E s, eIA E na N f, rs] 0 [some (.ref s.a), some (.int 108), some (.ref na), none, none] [] 0 0
  generalize hQ_ : eQX x E (fun w Γ => ∃ s2 : Sy, w = some (.int (gAct s.abs (gDone 108 s.m.abs f)).1) ∧ Γ = [eSys E s2] ∧ s2.abs = (gAct s.abs (gDone 108 s.m.abs f)).2 ∧ sOk s2 ∧ s2.a = s.a) (fun _ _ _ => False) rs = Q_
  obtain ⟨hk1, hk2, hk3, hk4, hk5, hk6⟩ := hs
  refine z_cut 0 (bs := [eO s.a 0 [.ref s.m.a, .ref s.dq, .ref s.sb], eMac E s.m, eAD E s.dq s.da s.dh (hA s.hs), eMacs E s.hs, eSB E s.sb s.sv s.sN s.ml s.tx.length s.tf, eSto s.S]) rfl eSys_cut rfl ?_
  show eZ x E _ [eO s.a 0 [.ref s.m.a, .ref s.dq, .ref s.sb], eMac E s.m, eAD E s.dq s.da s.dh (hA s.hs), eMacs E s.hs, eSB E s.sb s.sv s.sN s.ml s.tx.length s.tf, eSto s.S, eIA E na N f, rs] 0 [some (.ref s.a), some (.int 108), some (.ref na), none, none] [] 0 0
  refine z_new (fs := [.null, .null, .null, .null, .int 0, .int 0, .int 0, .int 0, .int 0, .int 0]) eK1 C dX0_act_0 rfl q101 q102 q50 rfl (Nat.le_of_ble_eq_true rfl) (Nat.le_of_ble_eq_true rfl) (fun o1 => ?_)
  show eZ x E _ [eO s.a 0 [.ref s.m.a, .ref s.dq, .ref s.sb], eMac E s.m, eAD E s.dq s.da s.dh (hA s.hs), eMacs E s.hs, eSB E s.sb s.sv s.sN s.ml s.tx.length s.tf, eSto s.S, eIA E na N f, rs, eO o1 1 [.null, .null, .null, .null, .int 0, .int 0, .int 0, .int 0, .int 0, .int 0]] 3 [some (.ref s.a), some (.int 108), some (.ref na), none, none] [.ref o1] 1 10
  refine z_dup C dX0_act_3 rfl ?_
  refine z_aload_n C dX0_act_4 rfl rfl ?_
  refine z_get eK0 0 0 C dX0_act_5 rfl rfl q399 (eSame1 rfl) (by decide) rfl ?_
  refine z_callI (As := [.ref s.m.a]) (rest := [.ref o1]) (Δ := [eO s.a 0 [.ref s.m.a, .ref s.dq, .ref s.sb], eAD E s.dq s.da s.dh (hA s.hs), eMacs E s.hs, eSB E s.sb s.sv s.sN s.ml s.tx.length s.tf, eIA E na N f, rs]) [8, 1, 5] [0, 2, 3, 4, 6, 7] 1 (m_Machine_init2 hl E o1 s.m s.S hk1 hk2) C dX0_act_8 rfl rfl rfl q419 q420 q50 q421 rfl (by decide +kernel) rfl (ePm 9 rfl (by decide +kernel)) rfl rfl ⟨Nat.le_of_ble_eq_true rfl, Nat.le_of_ble_eq_true rfl⟩ (Nat.le_trans (eSm rfl eS0) (Nat.le_of_ble_eq_true rfl)) ⟨Nat.le_of_ble_eq_true rfl, Nat.le_of_ble_eq_true rfl⟩ (fun v_ Γ_ hp_ => ?_)
  obtain ⟨rfl, c2, rfl, hca, hab, hS2⟩ := hp_
  show eZ x E _ [eMac E c2, eMac E s.m, eSto s.S, eO s.a 0 [.ref s.m.a, .ref s.dq, .ref s.sb], eAD E s.dq s.da s.dh (hA s.hs), eMacs E s.hs, eSB E s.sb s.sv s.sN s.ml s.tx.length s.tf, eIA E na N f, rs] 11 [some (.ref s.a), some (.int 108), some (.ref na), none, none] [.ref o1] 102 469
  subst hca
  have hok2 : gOk c2.abs := by rw [hab]; exact hk1
  show eZ x E _ [eMac E c2, eMac E s.m, eSto s.S, eO s.a 0 [.ref s.m.a, .ref s.dq, .ref s.sb], eAD E s.dq s.da s.dh (hA s.hs), eMacs E s.hs, eSB E s.sb s.sv s.sN s.ml s.tx.length s.tf, eIA E na N f, rs] 11 [some (.ref s.a), some (.int 108), some (.ref na), none, none] [.ref c2.a] 102 469
  refine z_astore_n (L2 := [some (.ref s.a), some (.int 108), some (.ref na), some (.ref c2.a), none]) C dX0_act_11 rfl (Nat.le_of_ble_eq_true rfl) rfl ?_
  refine z_aload_n C dX0_act_12 rfl rfl ?_
  refine z_aload_n C dX0_act_13 rfl rfl ?_
  refine z_aload_n C dX0_act_14 rfl rfl ?_
  refine z_iload_n C dX0_act_15 rfl rfl ?_
  refine z_aload_n C dX0_act_16 rfl rfl ?_
  refine z_callSX (As := [.ref c2.a, .int 108, .ref na]) (rest := [.ref c2.a, .ref s.a]) (Δ := [eMac E s.m, eO s.a 0 [.ref s.m.a, .ref s.dq, .ref s.sb], eAD E s.dq s.da s.dh (hA s.hs), eMacs E s.hs, eSB E s.sb s.sv s.sN s.ml s.tx.length s.tf, rs]) [0, 7, 2] [1, 3, 4, 5, 6, 8] 3 (m_done_l hl E c2 s.S hok2 hS2 na N f hN hN2) C dX0_act_17 rfl rfl rfl q973 q974 q49 q975 (by decide +kernel) rfl (ePm 9 rfl (by decide +kernel)) rfl rfl ⟨Nat.le_of_ble_eq_true rfl, Nat.le_of_ble_eq_true rfl⟩ (Nat.le_trans (eSm rfl (eSm rfl eS0)) (Nat.le_of_ble_eq_true rfl)) ⟨Nat.le_of_ble_eq_true rfl, Nat.le_of_ble_eq_true rfl⟩ (fun q_ En_ Γ_ hx_ => ?_) (fun v_ Γ_ hp_ => ?_)
  · obtain ⟨code, he, rfl, r1, r2, rfl⟩ := hx_
    show eY x E _ [eRfB E q_ code r1 r2, eMac E c2, eIA E na N f, eSto s.S, eMac E s.m, eO s.a 0 [.ref s.m.a, .ref s.dq, .ref s.sb], eAD E s.dq s.da s.dh (hA s.hs), eMacs E s.hs, eSB E s.sb s.sv s.sN s.ml s.tx.length s.tf, rs] 17 [some (.ref s.a), some (.int 108), some (.ref na), some (.ref c2.a), none] [.ref c2.a, .ref s.a] q_ 104 483
    show eY x E _ [eO q_ 6 [.ref q_, va_rf r1, va_rf r2, .ref (E.2.2.2 12), .null, .int 0, .int code], eMac E c2, eIA E na N f, eSto s.S, eMac E s.m, eO s.a 0 [.ref s.m.a, .ref s.dq, .ref s.sb], eAD E s.dq s.da s.dh (hA s.hs), eMacs E s.hs, eSB E s.sb s.sv s.sN s.ml s.tx.length s.tf, rs] 17 [some (.ref s.a), some (.int 108), some (.ref na), some (.ref c2.a), none] [.ref c2.a, .ref s.a] q_ 104 483
    refine z_catch C hT (by decide) (by decide) rfl q418 q1005 (eIn (i := 0) rfl List.mem_cons_self) (show eCl[6]? = some _ from rfl) ?_
    show eZ x E _ [eO q_ 6 [.ref q_, va_rf r1, va_rf r2, .ref (E.2.2.2 12), .null, .int 0, .int code], eMac E c2, eIA E na N f, eSto s.S, eMac E s.m, eO s.a 0 [.ref s.m.a, .ref s.dq, .ref s.sb], eAD E s.dq s.da s.dh (hA s.hs), eMacs E s.hs, eSB E s.sb s.sv s.sN s.ml s.tx.length s.tf, rs] 24 [some (.ref s.a), some (.int 108), some (.ref na), some (.ref c2.a), none] [.ref q_] 104 483
    refine z_astore (L2 := [some (.ref s.a), some (.int 108), some (.ref na), some (.ref c2.a), some (.ref q_)]) C dX0_act_24 (Nat.le_of_ble_eq_true rfl) rfl ?_
    refine z_aload C dX0_act_26 rfl ?_
    refine z_getN eK6 0 6 C dX0_act_28 rfl rfl q1024 (eSame1 rfl) (by decide) rfl ?_
    refine z_pick (Γ' := [eO s.a 0 [.ref s.m.a, .ref s.dq, .ref s.sb], eMac E s.m, eAD E s.dq s.da s.dh (hA s.hs), eMacs E s.hs, eSB E s.sb s.sv s.sN s.ml s.tx.length s.tf, eSto s.S, eO q_ 6 [.ref q_, va_rf r1, va_rf r2, .ref (E.2.2.2 12), .null, .int 0, .int code], eMac E c2, eIA E na N f, rs]) [5, 4, 6, 7, 8, 3, 0, 1, 2, 9] (ePm 10 rfl (by decide +kernel)) rfl ?_
    refine z_join 6 (b := eSys E s) eSys_cut.symm rfl ?_
    show eZ x E _ [eSys E s, eO q_ 6 [.ref q_, va_rf r1, va_rf r2, .ref (E.2.2.2 12), .null, .int 0, .int code], eMac E c2, eIA E na N f, rs] 31 [some (.ref s.a), some (.int 108), some (.ref na), some (.ref c2.a), some (.ref q_)] [.int code] 104 483
    refine z_pick (Γ' := [eO q_ 6 [.ref q_, va_rf r1, va_rf r2, .ref (E.2.2.2 12), .null, .int 0, .int code], eMac E c2, eIA E na N f, eSys E s, rs]) [1, 2, 3, 0, 4] (ePm 5 rfl (by decide +kernel)) rfl ?_
    refine z_drop ?_
    refine z_drop ?_
    refine z_drop ?_
    show eZ x E _ [eSys E s, rs] 31 [some (.ref s.a), some (.int 108), some (.ref na), some (.ref c2.a), some (.ref q_)] [.int code] 104 483
    subst hQ_
    refine z_X ?_
    exact z_ret (Γ := [eSys E s]) C dX0_act_31 rfl rfl (Nat.le_of_ble_eq_true rfl) (Nat.le_of_ble_eq_true rfl) ⟨s, by rw [← hab, he]; rfl, rfl, by rw [← hab, he]; rfl, ⟨hk1, hk2, hk3, hk4, hk5, hk6⟩, rfl⟩
  obtain ⟨r, A2, c3, S3, he, rfl, rfl, ha3, hca3, hS3, hSS⟩ := hp_
  show eZ x E _ [eMac E c3, eIA E na N f, eSto S3, eMac E s.m, eO s.a 0 [.ref s.m.a, .ref s.dq, .ref s.sb], eAD E s.dq s.da s.dh (hA s.hs), eMacs E s.hs, eSB E s.sb s.sv s.sN s.ml s.tx.length s.tf, rs] 20 [some (.ref s.a), some (.int 108), some (.ref na), some (.ref c2.a), none] [.int r, .ref c2.a, .ref s.a] 104 483
  rw [show c2.a = c3.a from hca3.symm]
  show eZ x E _ [eMac E c3, eIA E na N f, eSto S3, eMac E s.m, eO s.a 0 [.ref s.m.a, .ref s.dq, .ref s.sb], eAD E s.dq s.da s.dh (hA s.hs), eMacs E s.hs, eSB E s.sb s.sv s.sN s.ml s.tx.length s.tf, rs] 20 [some (.ref s.a), some (.int 108), some (.ref na), some (.ref c3.a), none] [.int r, .ref c3.a, .ref s.a] 104 483
  refine z_callV (r := (RX0, TX0, 3)) (As := [.ref c3.a, .int r]) (rest := []) (Δ := [eIA E na N f, eSto S3, eSB E s.sb s.sv s.sN s.ml s.tx.length s.tf, rs]) [4, 3, 5, 6, 0] [1, 2, 7, 8] 2 (m_changed hl E s.a s.dq s.da s.dh s.sb s.m c3 s.hs r hk4 hk5) C dX0_act_20 rfl rfl (eIn (i := 4) rfl List.mem_cons_self) rfl rfl q1270 q1272 qs18 q49 q1273 (by decide +kernel) rfl (ePm 9 rfl (by decide +kernel)) rfl rfl ⟨Nat.le_of_ble_eq_true rfl, Nat.le_of_ble_eq_true rfl⟩ (Nat.le_trans eS0 (Nat.le_of_ble_eq_true rfl)) ⟨Nat.le_of_ble_eq_true rfl, Nat.le_of_ble_eq_true rfl⟩ (fun v_ Γ_ hp_ => ?_)
  obtain ⟨rfl, dh2, hdh2, rfl⟩ := hp_
  show eZ x E _ [eO s.a 0 [.ref c3.a, .ref s.dq, .ref s.sb], eAD E s.dq s.da dh2 (hA (gHist s.hs s.m)), eMacs E (gHist s.hs s.m), eMac E c3, eIA E na N f, eSto S3, eSB E s.sb s.sv s.sN s.ml s.tx.length s.tf, rs] 23 [some (.ref s.a), some (.int 108), some (.ref na), some (.ref c3.a), none] [.int r] 104 483
  refine z_pick (Γ' := [eO s.a 0 [.ref c3.a, .ref s.dq, .ref s.sb], eMac E c3, eAD E s.dq s.da dh2 (hA (gHist s.hs s.m)), eMacs E (gHist s.hs s.m), eSB E s.sb s.sv s.sN s.ml s.tx.length s.tf, eSto S3, eIA E na N f, rs]) [0, 3, 1, 2, 6, 5, 4, 7] (ePm 8 rfl (by decide +kernel)) rfl ?_
  refine z_join 6 (b := eSys E (s.a, c3, s.dq, s.da, dh2, gHist s.hs s.m, s.sb, s.sv, s.sN, s.ml, s.tx, s.tf, S3)) (by rw [eSys_cut]; rfl) rfl ?_
  show eZ x E _ [eSys E (s.a, c3, s.dq, s.da, dh2, gHist s.hs s.m, s.sb, s.sv, s.sN, s.ml, s.tx, s.tf, S3), eIA E na N f, rs] 23 [some (.ref s.a), some (.int 108), some (.ref na), some (.ref c3.a), none] [.int r] 104 483
  have hre : gDone 108 s.m.abs f = .inr (r, A2) := by rw [← hab]; exact he
  have hokA : gOk A2 := gDone_ok hk1 hre
  refine z_pick (Γ' := [eIA E na N f, eSys E (s.a, c3, s.dq, s.da, dh2, gHist s.hs s.m, s.sb, s.sv, s.sN, s.ml, s.tx, s.tf, S3), rs]) [1, 0, 2] (ePm 3 rfl (by decide +kernel)) rfl ?_
  refine z_drop ?_
  show eZ x E _ [eSys E (s.a, c3, s.dq, s.da, dh2, gHist s.hs s.m, s.sb, s.sv, s.sN, s.ml, s.tx, s.tf, S3), rs] 23 [some (.ref s.a), some (.int 108), some (.ref na), some (.ref c3.a), none] [.int r] 104 483
  subst hQ_
  refine z_X ?_
  exact z_ret (Γ := [eSys E (s.a, c3, s.dq, s.da, dh2, gHist s.hs s.m, s.sb, s.sv, s.sN, s.ml, s.tx, s.tf, S3)]) C dX0_act_23 rfl rfl (Nat.le_of_ble_eq_true rfl) (Nat.le_of_ble_eq_true rfl) ⟨(s.a, c3, s.dq, s.da, dh2, gHist s.hs s.m, s.sb, s.sv, s.sN, s.ml, s.tx, s.tf, S3), by rw [hre]; rfl, rfl, by rw [hre]; show ((c3.abs, (gHist s.hs s.m).map Cm.abs, s.tx) : As) = (A2, gHist (s.hs.map Cm.abs) s.m.abs, s.tx); rw [ha3, gHist_map], ⟨by rw [show Sy.m (s.a, c3, s.dq, s.da, dh2, gHist s.hs s.m, s.sb, s.sv, s.sN, s.ml, s.tx, s.tf, S3) = c3 from rfl, ha3]; exact hokA, hS3, fun h hh => by rcases gHist_mem hh with h9 | h9; exact ⟨(hk3 h h9).1, fun z hz => hSS _ ((hk3 h h9).2 z hz)⟩; subst h9; exact ⟨hk1, fun z hz => hSS _ (hk2 z hz)⟩, gHist_len _ _ hk4, hdh2, hk6⟩, rfl⟩

set_option maxHeartbeats 4000000 in
theorem m_act_t {l : Launch} (hl : l.stackTraces = false) (E : eEn) (s : Sy) (hs : sOk s) (na N : Nat) (f : Nat → Int32) (hN : 2 ≤ N) (hN2 : N < 1000) : eMetX l E yX0_act (wsW_ yX0_act cX0_act 5 (some .int) [(12, 23, 24, 13)]) ({ frames := 9, cells := 106, slots := 492, locals := 169 }) [.ref s.a, .int 116, .ref na] [eSys E s, eIA E na N f] (fun w Γ => ∃ s2 : Sy, w = some (.int (gAct s.abs (gDone 116 s.m.abs f)).1) ∧ Γ = [eSys E s2] ∧ s2.abs = (gAct s.abs (gDone 116 s.m.abs f)).2 ∧ sOk s2 ∧ s2.a = s.a) (fun _ _ _ => False) := by
  refine eStartW (cc := cX0_act) (nL := 5) (L := [some (.ref s.a), some (.int 116), some (.ref na), none, none]) hl (by decide) rfl (List.forall_mem_cons.mpr ⟨rfl, (List.forall_mem_cons.mpr ⟨rfl, (List.forall_mem_cons.mpr ⟨rfl, (fun _ h => absurd h List.not_mem_nil)⟩)⟩)⟩) (Nat.le_of_ble_eq_true rfl) ?_
  intro x rs C hT
  show eZ x E (eQX x E (fun w Γ => ∃ s2 : Sy, w = some (.int (gAct s.abs (gDone 116 s.m.abs f)).1) ∧ Γ = [eSys E s2] ∧ s2.abs = (gAct s.abs (gDone 116 s.m.abs f)).2 ∧ sOk s2 ∧ s2.a = s.a) (fun _ _ _ => False) rs) [eSys E s, eIA E na N f, rs] 0 [some (.ref s.a), some (.int 116), some (.ref na), none, none] [] 0 0
  generalize hQ_ : eQX x E (fun w Γ => ∃ s2 : Sy, w = some (.int (gAct s.abs (gDone 116 s.m.abs f)).1) ∧ Γ = [eSys E s2] ∧ s2.abs = (gAct s.abs (gDone 116 s.m.abs f)).2 ∧ sOk s2 ∧ s2.a = s.a) (fun _ _ _ => False) rs = Q_
  obtain ⟨hk1, hk2, hk3, hk4, hk5, hk6⟩ := hs
  refine z_cut 0 (bs := [eO s.a 0 [.ref s.m.a, .ref s.dq, .ref s.sb], eMac E s.m, eAD E s.dq s.da s.dh (hA s.hs), eMacs E s.hs, eSB E s.sb s.sv s.sN s.ml s.tx.length s.tf, eSto s.S]) rfl eSys_cut rfl ?_
  show eZ x E _ [eO s.a 0 [.ref s.m.a, .ref s.dq, .ref s.sb], eMac E s.m, eAD E s.dq s.da s.dh (hA s.hs), eMacs E s.hs, eSB E s.sb s.sv s.sN s.ml s.tx.length s.tf, eSto s.S, eIA E na N f, rs] 0 [some (.ref s.a), some (.int 116), some (.ref na), none, none] [] 0 0
  refine z_new (fs := [.null, .null, .null, .null, .int 0, .int 0, .int 0, .int 0, .int 0, .int 0]) eK1 C dX0_act_0 rfl q101 q102 q50 rfl (Nat.le_of_ble_eq_true rfl) (Nat.le_of_ble_eq_true rfl) (fun o1 => ?_)
  show eZ x E _ [eO s.a 0 [.ref s.m.a, .ref s.dq, .ref s.sb], eMac E s.m, eAD E s.dq s.da s.dh (hA s.hs), eMacs E s.hs, eSB E s.sb s.sv s.sN s.ml s.tx.length s.tf, eSto s.S, eIA E na N f, rs, eO o1 1 [.null, .null, .null, .null, .int 0, .int 0, .int 0, .int 0, .int 0, .int 0]] 3 [some (.ref s.a), some (.int 116), some (.ref na), none, none] [.ref o1] 1 10
  refine z_dup C dX0_act_3 rfl ?_
  refine z_aload_n C dX0_act_4 rfl rfl ?_
  refine z_get eK0 0 0 C dX0_act_5 rfl rfl q399 (eSame1 rfl) (by decide) rfl ?_
  refine z_callI (As := [.ref s.m.a]) (rest := [.ref o1]) (Δ := [eO s.a 0 [.ref s.m.a, .ref s.dq, .ref s.sb], eAD E s.dq s.da s.dh (hA s.hs), eMacs E s.hs, eSB E s.sb s.sv s.sN s.ml s.tx.length s.tf, eIA E na N f, rs]) [8, 1, 5] [0, 2, 3, 4, 6, 7] 1 (m_Machine_init2 hl E o1 s.m s.S hk1 hk2) C dX0_act_8 rfl rfl rfl q419 q420 q50 q421 rfl (by decide +kernel) rfl (ePm 9 rfl (by decide +kernel)) rfl rfl ⟨Nat.le_of_ble_eq_true rfl, Nat.le_of_ble_eq_true rfl⟩ (Nat.le_trans (eSm rfl eS0) (Nat.le_of_ble_eq_true rfl)) ⟨Nat.le_of_ble_eq_true rfl, Nat.le_of_ble_eq_true rfl⟩ (fun v_ Γ_ hp_ => ?_)
  obtain ⟨rfl, c2, rfl, hca, hab, hS2⟩ := hp_
  show eZ x E _ [eMac E c2, eMac E s.m, eSto s.S, eO s.a 0 [.ref s.m.a, .ref s.dq, .ref s.sb], eAD E s.dq s.da s.dh (hA s.hs), eMacs E s.hs, eSB E s.sb s.sv s.sN s.ml s.tx.length s.tf, eIA E na N f, rs] 11 [some (.ref s.a), some (.int 116), some (.ref na), none, none] [.ref o1] 102 469
  subst hca
  have hok2 : gOk c2.abs := by rw [hab]; exact hk1
  show eZ x E _ [eMac E c2, eMac E s.m, eSto s.S, eO s.a 0 [.ref s.m.a, .ref s.dq, .ref s.sb], eAD E s.dq s.da s.dh (hA s.hs), eMacs E s.hs, eSB E s.sb s.sv s.sN s.ml s.tx.length s.tf, eIA E na N f, rs] 11 [some (.ref s.a), some (.int 116), some (.ref na), none, none] [.ref c2.a] 102 469
  refine z_astore_n (L2 := [some (.ref s.a), some (.int 116), some (.ref na), some (.ref c2.a), none]) C dX0_act_11 rfl (Nat.le_of_ble_eq_true rfl) rfl ?_
  refine z_aload_n C dX0_act_12 rfl rfl ?_
  refine z_aload_n C dX0_act_13 rfl rfl ?_
  refine z_aload_n C dX0_act_14 rfl rfl ?_
  refine z_iload_n C dX0_act_15 rfl rfl ?_
  refine z_aload_n C dX0_act_16 rfl rfl ?_
  refine z_callSX (As := [.ref c2.a, .int 116, .ref na]) (rest := [.ref c2.a, .ref s.a]) (Δ := [eMac E s.m, eO s.a 0 [.ref s.m.a, .ref s.dq, .ref s.sb], eAD E s.dq s.da s.dh (hA s.hs), eMacs E s.hs, eSB E s.sb s.sv s.sN s.ml s.tx.length s.tf, rs]) [0, 7, 2] [1, 3, 4, 5, 6, 8] 3 (m_done_t hl E c2 s.S hok2 hS2 na N f hN hN2) C dX0_act_17 rfl rfl rfl q973 q974 q49 q975 (by decide +kernel) rfl (ePm 9 rfl (by decide +kernel)) rfl rfl ⟨Nat.le_of_ble_eq_true rfl, Nat.le_of_ble_eq_true rfl⟩ (Nat.le_trans (eSm rfl (eSm rfl eS0)) (Nat.le_of_ble_eq_true rfl)) ⟨Nat.le_of_ble_eq_true rfl, Nat.le_of_ble_eq_true rfl⟩ (fun q_ En_ Γ_ hx_ => ?_) (fun v_ Γ_ hp_ => ?_)
  · obtain ⟨code, he, rfl, r1, r2, rfl⟩ := hx_
    show eY x E _ [eRfB E q_ code r1 r2, eMac E c2, eIA E na N f, eSto s.S, eMac E s.m, eO s.a 0 [.ref s.m.a, .ref s.dq, .ref s.sb], eAD E s.dq s.da s.dh (hA s.hs), eMacs E s.hs, eSB E s.sb s.sv s.sN s.ml s.tx.length s.tf, rs] 17 [some (.ref s.a), some (.int 116), some (.ref na), some (.ref c2.a), none] [.ref c2.a, .ref s.a] q_ 104 483
    show eY x E _ [eO q_ 6 [.ref q_, va_rf r1, va_rf r2, .ref (E.2.2.2 12), .null, .int 0, .int code], eMac E c2, eIA E na N f, eSto s.S, eMac E s.m, eO s.a 0 [.ref s.m.a, .ref s.dq, .ref s.sb], eAD E s.dq s.da s.dh (hA s.hs), eMacs E s.hs, eSB E s.sb s.sv s.sN s.ml s.tx.length s.tf, rs] 17 [some (.ref s.a), some (.int 116), some (.ref na), some (.ref c2.a), none] [.ref c2.a, .ref s.a] q_ 104 483
    refine z_catch C hT (by decide) (by decide) rfl q418 q1005 (eIn (i := 0) rfl List.mem_cons_self) (show eCl[6]? = some _ from rfl) ?_
    show eZ x E _ [eO q_ 6 [.ref q_, va_rf r1, va_rf r2, .ref (E.2.2.2 12), .null, .int 0, .int code], eMac E c2, eIA E na N f, eSto s.S, eMac E s.m, eO s.a 0 [.ref s.m.a, .ref s.dq, .ref s.sb], eAD E s.dq s.da s.dh (hA s.hs), eMacs E s.hs, eSB E s.sb s.sv s.sN s.ml s.tx.length s.tf, rs] 24 [some (.ref s.a), some (.int 116), some (.ref na), some (.ref c2.a), none] [.ref q_] 104 483
    refine z_astore (L2 := [some (.ref s.a), some (.int 116), some (.ref na), some (.ref c2.a), some (.ref q_)]) C dX0_act_24 (Nat.le_of_ble_eq_true rfl) rfl ?_
    refine z_aload C dX0_act_26 rfl ?_
    refine z_getN eK6 0 6 C dX0_act_28 rfl rfl q1024 (eSame1 rfl) (by decide) rfl ?_
    refine z_pick (Γ' := [eO s.a 0 [.ref s.m.a, .ref s.dq, .ref s.sb], eMac E s.m, eAD E s.dq s.da s.dh (hA s.hs), eMacs E s.hs, eSB E s.sb s.sv s.sN s.ml s.tx.length s.tf, eSto s.S, eO q_ 6 [.ref q_, va_rf r1, va_rf r2, .ref (E.2.2.2 12), .null, .int 0, .int code], eMac E c2, eIA E na N f, rs]) [5, 4, 6, 7, 8, 3, 0, 1, 2, 9] (ePm 10 rfl (by decide +kernel)) rfl ?_
    refine z_join 6 (b := eSys E s) eSys_cut.symm rfl ?_
    show eZ x E _ [eSys E s, eO q_ 6 [.ref q_, va_rf r1, va_rf r2, .ref (E.2.2.2 12), .null, .int 0, .int code], eMac E c2, eIA E na N f, rs] 31 [some (.ref s.a), some (.int 116), some (.ref na), some (.ref c2.a), some (.ref q_)] [.int code] 104 483
    refine z_pick (Γ' := [eO q_ 6 [.ref q_, va_rf r1, va_rf r2, .ref (E.2.2.2 12), .null, .int 0, .int code], eMac E c2, eIA E na N f, eSys E s, rs]) [1, 2, 3, 0, 4] (ePm 5 rfl (by decide +kernel)) rfl ?_
    refine z_drop ?_
    refine z_drop ?_
    refine z_drop ?_
    show eZ x E _ [eSys E s, rs] 31 [some (.ref s.a), some (.int 116), some (.ref na), some (.ref c2.a), some (.ref q_)] [.int code] 104 483
    subst hQ_
    refine z_X ?_
    exact z_ret (Γ := [eSys E s]) C dX0_act_31 rfl rfl (Nat.le_of_ble_eq_true rfl) (Nat.le_of_ble_eq_true rfl) ⟨s, by rw [← hab, he]; rfl, rfl, by rw [← hab, he]; rfl, ⟨hk1, hk2, hk3, hk4, hk5, hk6⟩, rfl⟩
  obtain ⟨r, A2, c3, S3, he, rfl, rfl, ha3, hca3, hS3, hSS⟩ := hp_
  show eZ x E _ [eMac E c3, eIA E na N f, eSto S3, eMac E s.m, eO s.a 0 [.ref s.m.a, .ref s.dq, .ref s.sb], eAD E s.dq s.da s.dh (hA s.hs), eMacs E s.hs, eSB E s.sb s.sv s.sN s.ml s.tx.length s.tf, rs] 20 [some (.ref s.a), some (.int 116), some (.ref na), some (.ref c2.a), none] [.int r, .ref c2.a, .ref s.a] 104 483
  rw [show c2.a = c3.a from hca3.symm]
  show eZ x E _ [eMac E c3, eIA E na N f, eSto S3, eMac E s.m, eO s.a 0 [.ref s.m.a, .ref s.dq, .ref s.sb], eAD E s.dq s.da s.dh (hA s.hs), eMacs E s.hs, eSB E s.sb s.sv s.sN s.ml s.tx.length s.tf, rs] 20 [some (.ref s.a), some (.int 116), some (.ref na), some (.ref c3.a), none] [.int r, .ref c3.a, .ref s.a] 104 483
  refine z_callV (r := (RX0, TX0, 3)) (As := [.ref c3.a, .int r]) (rest := []) (Δ := [eIA E na N f, eSto S3, eSB E s.sb s.sv s.sN s.ml s.tx.length s.tf, rs]) [4, 3, 5, 6, 0] [1, 2, 7, 8] 2 (m_changed hl E s.a s.dq s.da s.dh s.sb s.m c3 s.hs r hk4 hk5) C dX0_act_20 rfl rfl (eIn (i := 4) rfl List.mem_cons_self) rfl rfl q1270 q1272 qs18 q49 q1273 (by decide +kernel) rfl (ePm 9 rfl (by decide +kernel)) rfl rfl ⟨Nat.le_of_ble_eq_true rfl, Nat.le_of_ble_eq_true rfl⟩ (Nat.le_trans eS0 (Nat.le_of_ble_eq_true rfl)) ⟨Nat.le_of_ble_eq_true rfl, Nat.le_of_ble_eq_true rfl⟩ (fun v_ Γ_ hp_ => ?_)
  obtain ⟨rfl, dh2, hdh2, rfl⟩ := hp_
  show eZ x E _ [eO s.a 0 [.ref c3.a, .ref s.dq, .ref s.sb], eAD E s.dq s.da dh2 (hA (gHist s.hs s.m)), eMacs E (gHist s.hs s.m), eMac E c3, eIA E na N f, eSto S3, eSB E s.sb s.sv s.sN s.ml s.tx.length s.tf, rs] 23 [some (.ref s.a), some (.int 116), some (.ref na), some (.ref c3.a), none] [.int r] 104 483
  refine z_pick (Γ' := [eO s.a 0 [.ref c3.a, .ref s.dq, .ref s.sb], eMac E c3, eAD E s.dq s.da dh2 (hA (gHist s.hs s.m)), eMacs E (gHist s.hs s.m), eSB E s.sb s.sv s.sN s.ml s.tx.length s.tf, eSto S3, eIA E na N f, rs]) [0, 3, 1, 2, 6, 5, 4, 7] (ePm 8 rfl (by decide +kernel)) rfl ?_
  refine z_join 6 (b := eSys E (s.a, c3, s.dq, s.da, dh2, gHist s.hs s.m, s.sb, s.sv, s.sN, s.ml, s.tx, s.tf, S3)) (by rw [eSys_cut]; rfl) rfl ?_
  show eZ x E _ [eSys E (s.a, c3, s.dq, s.da, dh2, gHist s.hs s.m, s.sb, s.sv, s.sN, s.ml, s.tx, s.tf, S3), eIA E na N f, rs] 23 [some (.ref s.a), some (.int 116), some (.ref na), some (.ref c3.a), none] [.int r] 104 483
  have hre : gDone 116 s.m.abs f = .inr (r, A2) := by rw [← hab]; exact he
  have hokA : gOk A2 := gDone_ok hk1 hre
  refine z_pick (Γ' := [eIA E na N f, eSys E (s.a, c3, s.dq, s.da, dh2, gHist s.hs s.m, s.sb, s.sv, s.sN, s.ml, s.tx, s.tf, S3), rs]) [1, 0, 2] (ePm 3 rfl (by decide +kernel)) rfl ?_
  refine z_drop ?_
  show eZ x E _ [eSys E (s.a, c3, s.dq, s.da, dh2, gHist s.hs s.m, s.sb, s.sv, s.sN, s.ml, s.tx, s.tf, S3), rs] 23 [some (.ref s.a), some (.int 116), some (.ref na), some (.ref c3.a), none] [.int r] 104 483
  subst hQ_
  refine z_X ?_
  exact z_ret (Γ := [eSys E (s.a, c3, s.dq, s.da, dh2, gHist s.hs s.m, s.sb, s.sv, s.sN, s.ml, s.tx, s.tf, S3)]) C dX0_act_23 rfl rfl (Nat.le_of_ble_eq_true rfl) (Nat.le_of_ble_eq_true rfl) ⟨(s.a, c3, s.dq, s.da, dh2, gHist s.hs s.m, s.sb, s.sv, s.sN, s.ml, s.tx, s.tf, S3), by rw [hre]; rfl, rfl, by rw [hre]; show ((c3.abs, (gHist s.hs s.m).map Cm.abs, s.tx) : As) = (A2, gHist (s.hs.map Cm.abs) s.m.abs, s.tx); rw [ha3, gHist_map], ⟨by rw [show Sy.m (s.a, c3, s.dq, s.da, dh2, gHist s.hs s.m, s.sb, s.sv, s.sN, s.ml, s.tx, s.tf, S3) = c3 from rfl, ha3]; exact hokA, hS3, fun h hh => by rcases gHist_mem hh with h9 | h9; exact ⟨(hk3 h h9).1, fun z hz => hSS _ ((hk3 h h9).2 z hz)⟩; subst h9; exact ⟨hk1, fun z hz => hSS _ (hk2 z hz)⟩, gHist_len _ _ hk4, hdh2, hk6⟩, rfl⟩

set_option maxHeartbeats 4000000 in
theorem m_act_c {l : Launch} (hl : l.stackTraces = false) (E : eEn) (s : Sy) (hs : sOk s) (na N : Nat) (f : Nat → Int32) (hN : 1 ≤ N) (hN2 : N < 1000) : eMetX l E yX0_act (wsW_ yX0_act cX0_act 5 (some .int) [(12, 23, 24, 13)]) ({ frames := 9, cells := 106, slots := 492, locals := 168 }) [.ref s.a, .int 99, .ref na] [eSys E s, eIA E na N f] (fun w Γ => ∃ s2 : Sy, w = some (.int (gAct s.abs (gDone 99 s.m.abs f)).1) ∧ Γ = [eSys E s2] ∧ s2.abs = (gAct s.abs (gDone 99 s.m.abs f)).2 ∧ sOk s2 ∧ s2.a = s.a) (fun _ _ _ => False) := by
  refine eStartW (cc := cX0_act) (nL := 5) (L := [some (.ref s.a), some (.int 99), some (.ref na), none, none]) hl (by decide) rfl (List.forall_mem_cons.mpr ⟨rfl, (List.forall_mem_cons.mpr ⟨rfl, (List.forall_mem_cons.mpr ⟨rfl, (fun _ h => absurd h List.not_mem_nil)⟩)⟩)⟩) (Nat.le_of_ble_eq_true rfl) ?_
  intro x rs C hT
  show eZ x E (eQX x E (fun w Γ => ∃ s2 : Sy, w = some (.int (gAct s.abs (gDone 99 s.m.abs f)).1) ∧ Γ = [eSys E s2] ∧ s2.abs = (gAct s.abs (gDone 99 s.m.abs f)).2 ∧ sOk s2 ∧ s2.a = s.a) (fun _ _ _ => False) rs) [eSys E s, eIA E na N f, rs] 0 [some (.ref s.a), some (.int 99), some (.ref na), none, none] [] 0 0
  generalize hQ_ : eQX x E (fun w Γ => ∃ s2 : Sy, w = some (.int (gAct s.abs (gDone 99 s.m.abs f)).1) ∧ Γ = [eSys E s2] ∧ s2.abs = (gAct s.abs (gDone 99 s.m.abs f)).2 ∧ sOk s2 ∧ s2.a = s.a) (fun _ _ _ => False) rs = Q_
  obtain ⟨hk1, hk2, hk3, hk4, hk5, hk6⟩ := hs
  refine z_cut 0 (bs := [eO s.a 0 [.ref s.m.a, .ref s.dq, .ref s.sb], eMac E s.m, eAD E s.dq s.da s.dh (hA s.hs), eMacs E s.hs, eSB E s.sb s.sv s.sN s.ml s.tx.length s.tf, eSto s.S]) rfl eSys_cut rfl ?_
  show eZ x E _ [eO s.a 0 [.ref s.m.a, .ref s.dq, .ref s.sb], eMac E s.m, eAD E s.dq s.da s.dh (hA s.hs), eMacs E s.hs, eSB E s.sb s.sv s.sN s.ml s.tx.length s.tf, eSto s.S, eIA E na N f, rs] 0 [some (.ref s.a), some (.int 99), some (.ref na), none, none] [] 0 0
  refine z_new (fs := [.null, .null, .null, .null, .int 0, .int 0, .int 0, .int 0, .int 0, .int 0]) eK1 C dX0_act_0 rfl q101 q102 q50 rfl (Nat.le_of_ble_eq_true rfl) (Nat.le_of_ble_eq_true rfl) (fun o1 => ?_)
  show eZ x E _ [eO s.a 0 [.ref s.m.a, .ref s.dq, .ref s.sb], eMac E s.m, eAD E s.dq s.da s.dh (hA s.hs), eMacs E s.hs, eSB E s.sb s.sv s.sN s.ml s.tx.length s.tf, eSto s.S, eIA E na N f, rs, eO o1 1 [.null, .null, .null, .null, .int 0, .int 0, .int 0, .int 0, .int 0, .int 0]] 3 [some (.ref s.a), some (.int 99), some (.ref na), none, none] [.ref o1] 1 10
  refine z_dup C dX0_act_3 rfl ?_
  refine z_aload_n C dX0_act_4 rfl rfl ?_
  refine z_get eK0 0 0 C dX0_act_5 rfl rfl q399 (eSame1 rfl) (by decide) rfl ?_
  refine z_callI (As := [.ref s.m.a]) (rest := [.ref o1]) (Δ := [eO s.a 0 [.ref s.m.a, .ref s.dq, .ref s.sb], eAD E s.dq s.da s.dh (hA s.hs), eMacs E s.hs, eSB E s.sb s.sv s.sN s.ml s.tx.length s.tf, eIA E na N f, rs]) [8, 1, 5] [0, 2, 3, 4, 6, 7] 1 (m_Machine_init2 hl E o1 s.m s.S hk1 hk2) C dX0_act_8 rfl rfl rfl q419 q420 q50 q421 rfl (by decide +kernel) rfl (ePm 9 rfl (by decide +kernel)) rfl rfl ⟨Nat.le_of_ble_eq_true rfl, Nat.le_of_ble_eq_true rfl⟩ (Nat.le_trans (eSm rfl eS0) (Nat.le_of_ble_eq_true rfl)) ⟨Nat.le_of_ble_eq_true rfl, Nat.le_of_ble_eq_true rfl⟩ (fun v_ Γ_ hp_ => ?_)
  obtain ⟨rfl, c2, rfl, hca, hab, hS2⟩ := hp_
  show eZ x E _ [eMac E c2, eMac E s.m, eSto s.S, eO s.a 0 [.ref s.m.a, .ref s.dq, .ref s.sb], eAD E s.dq s.da s.dh (hA s.hs), eMacs E s.hs, eSB E s.sb s.sv s.sN s.ml s.tx.length s.tf, eIA E na N f, rs] 11 [some (.ref s.a), some (.int 99), some (.ref na), none, none] [.ref o1] 102 469
  subst hca
  have hok2 : gOk c2.abs := by rw [hab]; exact hk1
  show eZ x E _ [eMac E c2, eMac E s.m, eSto s.S, eO s.a 0 [.ref s.m.a, .ref s.dq, .ref s.sb], eAD E s.dq s.da s.dh (hA s.hs), eMacs E s.hs, eSB E s.sb s.sv s.sN s.ml s.tx.length s.tf, eIA E na N f, rs] 11 [some (.ref s.a), some (.int 99), some (.ref na), none, none] [.ref c2.a] 102 469
  refine z_astore_n (L2 := [some (.ref s.a), some (.int 99), some (.ref na), some (.ref c2.a), none]) C dX0_act_11 rfl (Nat.le_of_ble_eq_true rfl) rfl ?_
  refine z_aload_n C dX0_act_12 rfl rfl ?_
  refine z_aload_n C dX0_act_13 rfl rfl ?_
  refine z_aload_n C dX0_act_14 rfl rfl ?_
  refine z_iload_n C dX0_act_15 rfl rfl ?_
  refine z_aload_n C dX0_act_16 rfl rfl ?_
  refine z_callSX (As := [.ref c2.a, .int 99, .ref na]) (rest := [.ref c2.a, .ref s.a]) (Δ := [eMac E s.m, eO s.a 0 [.ref s.m.a, .ref s.dq, .ref s.sb], eAD E s.dq s.da s.dh (hA s.hs), eMacs E s.hs, eSB E s.sb s.sv s.sN s.ml s.tx.length s.tf, rs]) [0, 7, 2] [1, 3, 4, 5, 6, 8] 3 (m_done_c hl E c2 s.S hok2 hS2 na N f hN hN2) C dX0_act_17 rfl rfl rfl q973 q974 q49 q975 (by decide +kernel) rfl (ePm 9 rfl (by decide +kernel)) rfl rfl ⟨Nat.le_of_ble_eq_true rfl, Nat.le_of_ble_eq_true rfl⟩ (Nat.le_trans (eSm rfl (eSm rfl eS0)) (Nat.le_of_ble_eq_true rfl)) ⟨Nat.le_of_ble_eq_true rfl, Nat.le_of_ble_eq_true rfl⟩ (fun q_ En_ Γ_ hx_ => ?_) (fun v_ Γ_ hp_ => ?_)
  · obtain ⟨code, he, rfl, r1, r2, rfl⟩ := hx_
    show eY x E _ [eRfB E q_ code r1 r2, eMac E c2, eIA E na N f, eSto s.S, eMac E s.m, eO s.a 0 [.ref s.m.a, .ref s.dq, .ref s.sb], eAD E s.dq s.da s.dh (hA s.hs), eMacs E s.hs, eSB E s.sb s.sv s.sN s.ml s.tx.length s.tf, rs] 17 [some (.ref s.a), some (.int 99), some (.ref na), some (.ref c2.a), none] [.ref c2.a, .ref s.a] q_ 104 483
    show eY x E _ [eO q_ 6 [.ref q_, va_rf r1, va_rf r2, .ref (E.2.2.2 12), .null, .int 0, .int code], eMac E c2, eIA E na N f, eSto s.S, eMac E s.m, eO s.a 0 [.ref s.m.a, .ref s.dq, .ref s.sb], eAD E s.dq s.da s.dh (hA s.hs), eMacs E s.hs, eSB E s.sb s.sv s.sN s.ml s.tx.length s.tf, rs] 17 [some (.ref s.a), some (.int 99), some (.ref na), some (.ref c2.a), none] [.ref c2.a, .ref s.a] q_ 104 483
    refine z_catch C hT (by decide) (by decide) rfl q418 q1005 (eIn (i := 0) rfl List.mem_cons_self) (show eCl[6]? = some _ from rfl) ?_
    show eZ x E _ [eO q_ 6 [.ref q_, va_rf r1, va_rf r2, .ref (E.2.2.2 12), .null, .int 0, .int code], eMac E c2, eIA E na N f, eSto s.S, eMac E s.m, eO s.a 0 [.ref s.m.a, .ref s.dq, .ref s.sb], eAD E s.dq s.da s.dh (hA s.hs), eMacs E s.hs, eSB E s.sb s.sv s.sN s.ml s.tx.length s.tf, rs] 24 [some (.ref s.a), some (.int 99), some (.ref na), some (.ref c2.a), none] [.ref q_] 104 483
    refine z_astore (L2 := [some (.ref s.a), some (.int 99), some (.ref na), some (.ref c2.a), some (.ref q_)]) C dX0_act_24 (Nat.le_of_ble_eq_true rfl) rfl ?_
    refine z_aload C dX0_act_26 rfl ?_
    refine z_getN eK6 0 6 C dX0_act_28 rfl rfl q1024 (eSame1 rfl) (by decide) rfl ?_
    refine z_pick (Γ' := [eO s.a 0 [.ref s.m.a, .ref s.dq, .ref s.sb], eMac E s.m, eAD E s.dq s.da s.dh (hA s.hs), eMacs E s.hs, eSB E s.sb s.sv s.sN s.ml s.tx.length s.tf, eSto s.S, eO q_ 6 [.ref q_, va_rf r1, va_rf r2, .ref (E.2.2.2 12), .null, .int 0, .int code], eMac E c2, eIA E na N f, rs]) [5, 4, 6, 7, 8, 3, 0, 1, 2, 9] (ePm 10 rfl (by decide +kernel)) rfl ?_
    refine z_join 6 (b := eSys E s) eSys_cut.symm rfl ?_
    show eZ x E _ [eSys E s, eO q_ 6 [.ref q_, va_rf r1, va_rf r2, .ref (E.2.2.2 12), .null, .int 0, .int code], eMac E c2, eIA E na N f, rs] 31 [some (.ref s.a), some (.int 99), some (.ref na), some (.ref c2.a), some (.ref q_)] [.int code] 104 483
    refine z_pick (Γ' := [eO q_ 6 [.ref q_, va_rf r1, va_rf r2, .ref (E.2.2.2 12), .null, .int 0, .int code], eMac E c2, eIA E na N f, eSys E s, rs]) [1, 2, 3, 0, 4] (ePm 5 rfl (by decide +kernel)) rfl ?_
    refine z_drop ?_
    refine z_drop ?_
    refine z_drop ?_
    show eZ x E _ [eSys E s, rs] 31 [some (.ref s.a), some (.int 99), some (.ref na), some (.ref c2.a), some (.ref q_)] [.int code] 104 483
    subst hQ_
    refine z_X ?_
    exact z_ret (Γ := [eSys E s]) C dX0_act_31 rfl rfl (Nat.le_of_ble_eq_true rfl) (Nat.le_of_ble_eq_true rfl) ⟨s, by rw [← hab, he]; rfl, rfl, by rw [← hab, he]; rfl, ⟨hk1, hk2, hk3, hk4, hk5, hk6⟩, rfl⟩
  obtain ⟨r, A2, c3, S3, he, rfl, rfl, ha3, hca3, hS3, hSS⟩ := hp_
  show eZ x E _ [eMac E c3, eIA E na N f, eSto S3, eMac E s.m, eO s.a 0 [.ref s.m.a, .ref s.dq, .ref s.sb], eAD E s.dq s.da s.dh (hA s.hs), eMacs E s.hs, eSB E s.sb s.sv s.sN s.ml s.tx.length s.tf, rs] 20 [some (.ref s.a), some (.int 99), some (.ref na), some (.ref c2.a), none] [.int r, .ref c2.a, .ref s.a] 104 483
  rw [show c2.a = c3.a from hca3.symm]
  show eZ x E _ [eMac E c3, eIA E na N f, eSto S3, eMac E s.m, eO s.a 0 [.ref s.m.a, .ref s.dq, .ref s.sb], eAD E s.dq s.da s.dh (hA s.hs), eMacs E s.hs, eSB E s.sb s.sv s.sN s.ml s.tx.length s.tf, rs] 20 [some (.ref s.a), some (.int 99), some (.ref na), some (.ref c3.a), none] [.int r, .ref c3.a, .ref s.a] 104 483
  refine z_callV (r := (RX0, TX0, 3)) (As := [.ref c3.a, .int r]) (rest := []) (Δ := [eIA E na N f, eSto S3, eSB E s.sb s.sv s.sN s.ml s.tx.length s.tf, rs]) [4, 3, 5, 6, 0] [1, 2, 7, 8] 2 (m_changed hl E s.a s.dq s.da s.dh s.sb s.m c3 s.hs r hk4 hk5) C dX0_act_20 rfl rfl (eIn (i := 4) rfl List.mem_cons_self) rfl rfl q1270 q1272 qs18 q49 q1273 (by decide +kernel) rfl (ePm 9 rfl (by decide +kernel)) rfl rfl ⟨Nat.le_of_ble_eq_true rfl, Nat.le_of_ble_eq_true rfl⟩ (Nat.le_trans eS0 (Nat.le_of_ble_eq_true rfl)) ⟨Nat.le_of_ble_eq_true rfl, Nat.le_of_ble_eq_true rfl⟩ (fun v_ Γ_ hp_ => ?_)
  obtain ⟨rfl, dh2, hdh2, rfl⟩ := hp_
  show eZ x E _ [eO s.a 0 [.ref c3.a, .ref s.dq, .ref s.sb], eAD E s.dq s.da dh2 (hA (gHist s.hs s.m)), eMacs E (gHist s.hs s.m), eMac E c3, eIA E na N f, eSto S3, eSB E s.sb s.sv s.sN s.ml s.tx.length s.tf, rs] 23 [some (.ref s.a), some (.int 99), some (.ref na), some (.ref c3.a), none] [.int r] 104 483
  refine z_pick (Γ' := [eO s.a 0 [.ref c3.a, .ref s.dq, .ref s.sb], eMac E c3, eAD E s.dq s.da dh2 (hA (gHist s.hs s.m)), eMacs E (gHist s.hs s.m), eSB E s.sb s.sv s.sN s.ml s.tx.length s.tf, eSto S3, eIA E na N f, rs]) [0, 3, 1, 2, 6, 5, 4, 7] (ePm 8 rfl (by decide +kernel)) rfl ?_
  refine z_join 6 (b := eSys E (s.a, c3, s.dq, s.da, dh2, gHist s.hs s.m, s.sb, s.sv, s.sN, s.ml, s.tx, s.tf, S3)) (by rw [eSys_cut]; rfl) rfl ?_
  show eZ x E _ [eSys E (s.a, c3, s.dq, s.da, dh2, gHist s.hs s.m, s.sb, s.sv, s.sN, s.ml, s.tx, s.tf, S3), eIA E na N f, rs] 23 [some (.ref s.a), some (.int 99), some (.ref na), some (.ref c3.a), none] [.int r] 104 483
  have hre : gDone 99 s.m.abs f = .inr (r, A2) := by rw [← hab]; exact he
  have hokA : gOk A2 := gDone_ok hk1 hre
  refine z_pick (Γ' := [eIA E na N f, eSys E (s.a, c3, s.dq, s.da, dh2, gHist s.hs s.m, s.sb, s.sv, s.sN, s.ml, s.tx, s.tf, S3), rs]) [1, 0, 2] (ePm 3 rfl (by decide +kernel)) rfl ?_
  refine z_drop ?_
  show eZ x E _ [eSys E (s.a, c3, s.dq, s.da, dh2, gHist s.hs s.m, s.sb, s.sv, s.sN, s.ml, s.tx, s.tf, S3), rs] 23 [some (.ref s.a), some (.int 99), some (.ref na), some (.ref c3.a), none] [.int r] 104 483
  subst hQ_
  refine z_X ?_
  exact z_ret (Γ := [eSys E (s.a, c3, s.dq, s.da, dh2, gHist s.hs s.m, s.sb, s.sv, s.sN, s.ml, s.tx, s.tf, S3)]) C dX0_act_23 rfl rfl (Nat.le_of_ble_eq_true rfl) (Nat.le_of_ble_eq_true rfl) ⟨(s.a, c3, s.dq, s.da, dh2, gHist s.hs s.m, s.sb, s.sv, s.sN, s.ml, s.tx, s.tf, S3), by rw [hre]; rfl, rfl, by rw [hre]; show ((c3.abs, (gHist s.hs s.m).map Cm.abs, s.tx) : As) = (A2, gHist (s.hs.map Cm.abs) s.m.abs, s.tx); rw [ha3, gHist_map], ⟨by rw [show Sy.m (s.a, c3, s.dq, s.da, dh2, gHist s.hs s.m, s.sb, s.sv, s.sN, s.ml, s.tx, s.tf, S3) = c3 from rfl, ha3]; exact hokA, hS3, fun h hh => by rcases gHist_mem hh with h9 | h9; exact ⟨(hk3 h h9).1, fun z hz => hSS _ ((hk3 h h9).2 z hz)⟩; subst h9; exact ⟨hk1, fun z hz => hSS _ (hk2 z hz)⟩, gHist_len _ _ hk4, hdh2, hk6⟩, rfl⟩

set_option maxHeartbeats 4000000 in
theorem m_act_r {l : Launch} (hl : l.stackTraces = false) (E : eEn) (s : Sy) (hs : sOk s) (na N : Nat) (f : Nat → Int32) (hN : 1 ≤ N) (hN2 : N < 1000) : eMetX l E yX0_act (wsW_ yX0_act cX0_act 5 (some .int) [(12, 23, 24, 13)]) ({ frames := 13, cells := 102 + (2 + 17 * gM (f 0)), slots := 469 + (14 + 88 * gM (f 0)), locals := 262 }) [.ref s.a, .int 114, .ref na] [eSys E s, eIA E na N f] (fun w Γ => ∃ s2 : Sy, w = some (.int (gAct s.abs (gDone 114 s.m.abs f)).1) ∧ Γ = [eSys E s2] ∧ s2.abs = (gAct s.abs (gDone 114 s.m.abs f)).2 ∧ sOk s2 ∧ s2.a = s.a) (fun _ _ _ => False) := by
  refine eStartW (cc := cX0_act) (nL := 5) (L := [some (.ref s.a), some (.int 114), some (.ref na), none, none]) hl (by decide) rfl (List.forall_mem_cons.mpr ⟨rfl, (List.forall_mem_cons.mpr ⟨rfl, (List.forall_mem_cons.mpr ⟨rfl, (fun _ h => absurd h List.not_mem_nil)⟩)⟩)⟩) (Nat.le_of_ble_eq_true rfl) ?_
  intro x rs C hT
  show eZ x E (eQX x E (fun w Γ => ∃ s2 : Sy, w = some (.int (gAct s.abs (gDone 114 s.m.abs f)).1) ∧ Γ = [eSys E s2] ∧ s2.abs = (gAct s.abs (gDone 114 s.m.abs f)).2 ∧ sOk s2 ∧ s2.a = s.a) (fun _ _ _ => False) rs) [eSys E s, eIA E na N f, rs] 0 [some (.ref s.a), some (.int 114), some (.ref na), none, none] [] 0 0
  generalize hQ_ : eQX x E (fun w Γ => ∃ s2 : Sy, w = some (.int (gAct s.abs (gDone 114 s.m.abs f)).1) ∧ Γ = [eSys E s2] ∧ s2.abs = (gAct s.abs (gDone 114 s.m.abs f)).2 ∧ sOk s2 ∧ s2.a = s.a) (fun _ _ _ => False) rs = Q_
  obtain ⟨hk1, hk2, hk3, hk4, hk5, hk6⟩ := hs
  refine z_cut 0 (bs := [eO s.a 0 [.ref s.m.a, .ref s.dq, .ref s.sb], eMac E s.m, eAD E s.dq s.da s.dh (hA s.hs), eMacs E s.hs, eSB E s.sb s.sv s.sN s.ml s.tx.length s.tf, eSto s.S]) rfl eSys_cut rfl ?_
  show eZ x E _ [eO s.a 0 [.ref s.m.a, .ref s.dq, .ref s.sb], eMac E s.m, eAD E s.dq s.da s.dh (hA s.hs), eMacs E s.hs, eSB E s.sb s.sv s.sN s.ml s.tx.length s.tf, eSto s.S, eIA E na N f, rs] 0 [some (.ref s.a), some (.int 114), some (.ref na), none, none] [] 0 0
  refine z_new (fs := [.null, .null, .null, .null, .int 0, .int 0, .int 0, .int 0, .int 0, .int 0]) eK1 C dX0_act_0 rfl q101 q102 q50 rfl (by first | omega | (dsimp only; omega)) (by first | omega | (dsimp only; omega)) (fun o1 => ?_)
  show eZ x E _ [eO s.a 0 [.ref s.m.a, .ref s.dq, .ref s.sb], eMac E s.m, eAD E s.dq s.da s.dh (hA s.hs), eMacs E s.hs, eSB E s.sb s.sv s.sN s.ml s.tx.length s.tf, eSto s.S, eIA E na N f, rs, eO o1 1 [.null, .null, .null, .null, .int 0, .int 0, .int 0, .int 0, .int 0, .int 0]] 3 [some (.ref s.a), some (.int 114), some (.ref na), none, none] [.ref o1] 1 10
  refine z_dup C dX0_act_3 rfl ?_
  refine z_aload_n C dX0_act_4 rfl rfl ?_
  refine z_get eK0 0 0 C dX0_act_5 rfl rfl q399 (eSame1 rfl) (by decide) rfl ?_
  refine z_callI (As := [.ref s.m.a]) (rest := [.ref o1]) (Δ := [eO s.a 0 [.ref s.m.a, .ref s.dq, .ref s.sb], eAD E s.dq s.da s.dh (hA s.hs), eMacs E s.hs, eSB E s.sb s.sv s.sN s.ml s.tx.length s.tf, eIA E na N f, rs]) [8, 1, 5] [0, 2, 3, 4, 6, 7] 1 (m_Machine_init2 hl E o1 s.m s.S hk1 hk2) C dX0_act_8 rfl rfl rfl q419 q420 q50 q421 rfl (by decide +kernel) rfl (ePm 9 rfl (by decide +kernel)) rfl rfl ⟨Nat.le_of_ble_eq_true rfl, Nat.le_of_ble_eq_true rfl⟩ (Nat.le_trans (eSm rfl eS0) (Nat.le_of_ble_eq_true rfl)) ⟨by first | omega | (dsimp only; omega), by first | omega | (dsimp only; omega)⟩ (fun v_ Γ_ hp_ => ?_)
  obtain ⟨rfl, c2, rfl, hca, hab, hS2⟩ := hp_
  show eZ x E _ [eMac E c2, eMac E s.m, eSto s.S, eO s.a 0 [.ref s.m.a, .ref s.dq, .ref s.sb], eAD E s.dq s.da s.dh (hA s.hs), eMacs E s.hs, eSB E s.sb s.sv s.sN s.ml s.tx.length s.tf, eIA E na N f, rs] 11 [some (.ref s.a), some (.int 114), some (.ref na), none, none] [.ref o1] 102 469
  subst hca
  have hok2 : gOk c2.abs := by rw [hab]; exact hk1
  show eZ x E _ [eMac E c2, eMac E s.m, eSto s.S, eO s.a 0 [.ref s.m.a, .ref s.dq, .ref s.sb], eAD E s.dq s.da s.dh (hA s.hs), eMacs E s.hs, eSB E s.sb s.sv s.sN s.ml s.tx.length s.tf, eIA E na N f, rs] 11 [some (.ref s.a), some (.int 114), some (.ref na), none, none] [.ref c2.a] 102 469
  refine z_astore_n (L2 := [some (.ref s.a), some (.int 114), some (.ref na), some (.ref c2.a), none]) C dX0_act_11 rfl (Nat.le_of_ble_eq_true rfl) rfl ?_
  refine z_aload_n C dX0_act_12 rfl rfl ?_
  refine z_aload_n C dX0_act_13 rfl rfl ?_
  refine z_aload_n C dX0_act_14 rfl rfl ?_
  refine z_iload_n C dX0_act_15 rfl rfl ?_
  refine z_aload_n C dX0_act_16 rfl rfl ?_
  refine z_callSX (As := [.ref c2.a, .int 114, .ref na]) (rest := [.ref c2.a, .ref s.a]) (Δ := [eMac E s.m, eO s.a 0 [.ref s.m.a, .ref s.dq, .ref s.sb], eAD E s.dq s.da s.dh (hA s.hs), eMacs E s.hs, eSB E s.sb s.sv s.sN s.ml s.tx.length s.tf, rs]) [0, 7, 2] [1, 3, 4, 5, 6, 8] 3 (m_done_r hl E c2 s.S hok2 hS2 na N f hN hN2) C dX0_act_17 rfl rfl rfl q973 q974 q49 q975 (by decide +kernel) rfl (ePm 9 rfl (by decide +kernel)) rfl rfl ⟨Nat.le_of_ble_eq_true rfl, Nat.le_of_ble_eq_true rfl⟩ (Nat.le_trans (eSm rfl (eSm rfl eS0)) (Nat.le_of_ble_eq_true rfl)) ⟨by first | omega | (dsimp only; omega), by first | omega | (dsimp only; omega)⟩ (fun q_ En_ Γ_ hx_ => ?_) (fun v_ Γ_ hp_ => ?_)
  · obtain ⟨code, he, rfl, r1, r2, rfl⟩ := hx_
    show eY x E _ [eRfB E q_ code r1 r2, eMac E c2, eIA E na N f, eSto s.S, eMac E s.m, eO s.a 0 [.ref s.m.a, .ref s.dq, .ref s.sb], eAD E s.dq s.da s.dh (hA s.hs), eMacs E s.hs, eSB E s.sb s.sv s.sN s.ml s.tx.length s.tf, rs] 17 [some (.ref s.a), some (.int 114), some (.ref na), some (.ref c2.a), none] [.ref c2.a, .ref s.a] q_ (102 + (2 + 17 * gM (f 0))) (469 + (14 + 88 * gM (f 0)))
    show eY x E _ [eO q_ 6 [.ref q_, va_rf r1, va_rf r2, .ref (E.2.2.2 12), .null, .int 0, .int code], eMac E c2, eIA E na N f, eSto s.S, eMac E s.m, eO s.a 0 [.ref s.m.a, .ref s.dq, .ref s.sb], eAD E s.dq s.da s.dh (hA s.hs), eMacs E s.hs, eSB E s.sb s.sv s.sN s.ml s.tx.length s.tf, rs] 17 [some (.ref s.a), some (.int 114), some (.ref na), some (.ref c2.a), none] [.ref c2.a, .ref s.a] q_ (102 + (2 + 17 * gM (f 0))) (469 + (14 + 88 * gM (f 0)))
    refine z_catch C hT (by decide) (by decide) rfl q418 q1005 (eIn (i := 0) rfl List.mem_cons_self) (show eCl[6]? = some _ from rfl) ?_
    show eZ x E _ [eO q_ 6 [.ref q_, va_rf r1, va_rf r2, .ref (E.2.2.2 12), .null, .int 0, .int code], eMac E c2, eIA E na N f, eSto s.S, eMac E s.m, eO s.a 0 [.ref s.m.a, .ref s.dq, .ref s.sb], eAD E s.dq s.da s.dh (hA s.hs), eMacs E s.hs, eSB E s.sb s.sv s.sN s.ml s.tx.length s.tf, rs] 24 [some (.ref s.a), some (.int 114), some (.ref na), some (.ref c2.a), none] [.ref q_] (102 + (2 + 17 * gM (f 0))) (469 + (14 + 88 * gM (f 0)))
    refine z_astore (L2 := [some (.ref s.a), some (.int 114), some (.ref na), some (.ref c2.a), some (.ref q_)]) C dX0_act_24 (Nat.le_of_ble_eq_true rfl) rfl ?_
    refine z_aload C dX0_act_26 rfl ?_
    refine z_getN eK6 0 6 C dX0_act_28 rfl rfl q1024 (eSame1 rfl) (by decide) rfl ?_
    refine z_pick (Γ' := [eO s.a 0 [.ref s.m.a, .ref s.dq, .ref s.sb], eMac E s.m, eAD E s.dq s.da s.dh (hA s.hs), eMacs E s.hs, eSB E s.sb s.sv s.sN s.ml s.tx.length s.tf, eSto s.S, eO q_ 6 [.ref q_, va_rf r1, va_rf r2, .ref (E.2.2.2 12), .null, .int 0, .int code], eMac E c2, eIA E na N f, rs]) [5, 4, 6, 7, 8, 3, 0, 1, 2, 9] (ePm 10 rfl (by decide +kernel)) rfl ?_
    refine z_join 6 (b := eSys E s) eSys_cut.symm rfl ?_
    show eZ x E _ [eSys E s, eO q_ 6 [.ref q_, va_rf r1, va_rf r2, .ref (E.2.2.2 12), .null, .int 0, .int code], eMac E c2, eIA E na N f, rs] 31 [some (.ref s.a), some (.int 114), some (.ref na), some (.ref c2.a), some (.ref q_)] [.int code] (102 + (2 + 17 * gM (f 0))) (469 + (14 + 88 * gM (f 0)))
    refine z_pick (Γ' := [eO q_ 6 [.ref q_, va_rf r1, va_rf r2, .ref (E.2.2.2 12), .null, .int 0, .int code], eMac E c2, eIA E na N f, eSys E s, rs]) [1, 2, 3, 0, 4] (ePm 5 rfl (by decide +kernel)) rfl ?_
    refine z_drop ?_
    refine z_drop ?_
    refine z_drop ?_
    show eZ x E _ [eSys E s, rs] 31 [some (.ref s.a), some (.int 114), some (.ref na), some (.ref c2.a), some (.ref q_)] [.int code] (102 + (2 + 17 * gM (f 0))) (469 + (14 + 88 * gM (f 0)))
    subst hQ_
    refine z_X ?_
    exact z_ret (Γ := [eSys E s]) C dX0_act_31 rfl rfl (by (try dsimp only); omega) (by (try dsimp only); omega) ⟨s, by rw [← hab, he]; rfl, rfl, by rw [← hab, he]; rfl, ⟨hk1, hk2, hk3, hk4, hk5, hk6⟩, rfl⟩
  obtain ⟨r, A2, c3, S3, he, rfl, rfl, ha3, hca3, hS3, hSS⟩ := hp_
  show eZ x E _ [eMac E c3, eIA E na N f, eSto S3, eMac E s.m, eO s.a 0 [.ref s.m.a, .ref s.dq, .ref s.sb], eAD E s.dq s.da s.dh (hA s.hs), eMacs E s.hs, eSB E s.sb s.sv s.sN s.ml s.tx.length s.tf, rs] 20 [some (.ref s.a), some (.int 114), some (.ref na), some (.ref c2.a), none] [.int r, .ref c2.a, .ref s.a] (102 + (2 + 17 * gM (f 0))) (469 + (14 + 88 * gM (f 0)))
  rw [show c2.a = c3.a from hca3.symm]
  show eZ x E _ [eMac E c3, eIA E na N f, eSto S3, eMac E s.m, eO s.a 0 [.ref s.m.a, .ref s.dq, .ref s.sb], eAD E s.dq s.da s.dh (hA s.hs), eMacs E s.hs, eSB E s.sb s.sv s.sN s.ml s.tx.length s.tf, rs] 20 [some (.ref s.a), some (.int 114), some (.ref na), some (.ref c3.a), none] [.int r, .ref c3.a, .ref s.a] (102 + (2 + 17 * gM (f 0))) (469 + (14 + 88 * gM (f 0)))
  refine z_callV (r := (RX0, TX0, 3)) (As := [.ref c3.a, .int r]) (rest := []) (Δ := [eIA E na N f, eSto S3, eSB E s.sb s.sv s.sN s.ml s.tx.length s.tf, rs]) [4, 3, 5, 6, 0] [1, 2, 7, 8] 2 (m_changed hl E s.a s.dq s.da s.dh s.sb s.m c3 s.hs r hk4 hk5) C dX0_act_20 rfl rfl (eIn (i := 4) rfl List.mem_cons_self) rfl rfl q1270 q1272 qs18 q49 q1273 (by decide +kernel) rfl (ePm 9 rfl (by decide +kernel)) rfl rfl ⟨Nat.le_of_ble_eq_true rfl, Nat.le_of_ble_eq_true rfl⟩ (Nat.le_trans eS0 (Nat.le_of_ble_eq_true rfl)) ⟨by first | omega | (dsimp only; omega), by first | omega | (dsimp only; omega)⟩ (fun v_ Γ_ hp_ => ?_)
  obtain ⟨rfl, dh2, hdh2, rfl⟩ := hp_
  show eZ x E _ [eO s.a 0 [.ref c3.a, .ref s.dq, .ref s.sb], eAD E s.dq s.da dh2 (hA (gHist s.hs s.m)), eMacs E (gHist s.hs s.m), eMac E c3, eIA E na N f, eSto S3, eSB E s.sb s.sv s.sN s.ml s.tx.length s.tf, rs] 23 [some (.ref s.a), some (.int 114), some (.ref na), some (.ref c3.a), none] [.int r] (102 + (2 + 17 * gM (f 0))) (469 + (14 + 88 * gM (f 0)))
  refine z_pick (Γ' := [eO s.a 0 [.ref c3.a, .ref s.dq, .ref s.sb], eMac E c3, eAD E s.dq s.da dh2 (hA (gHist s.hs s.m)), eMacs E (gHist s.hs s.m), eSB E s.sb s.sv s.sN s.ml s.tx.length s.tf, eSto S3, eIA E na N f, rs]) [0, 3, 1, 2, 6, 5, 4, 7] (ePm 8 rfl (by decide +kernel)) rfl ?_
  refine z_join 6 (b := eSys E (s.a, c3, s.dq, s.da, dh2, gHist s.hs s.m, s.sb, s.sv, s.sN, s.ml, s.tx, s.tf, S3)) (by rw [eSys_cut]; rfl) rfl ?_
  show eZ x E _ [eSys E (s.a, c3, s.dq, s.da, dh2, gHist s.hs s.m, s.sb, s.sv, s.sN, s.ml, s.tx, s.tf, S3), eIA E na N f, rs] 23 [some (.ref s.a), some (.int 114), some (.ref na), some (.ref c3.a), none] [.int r] (102 + (2 + 17 * gM (f 0))) (469 + (14 + 88 * gM (f 0)))
  have hre : gDone 114 s.m.abs f = .inr (r, A2) := by rw [← hab]; exact he
  have hokA : gOk A2 := gDone_ok hk1 hre
  refine z_pick (Γ' := [eIA E na N f, eSys E (s.a, c3, s.dq, s.da, dh2, gHist s.hs s.m, s.sb, s.sv, s.sN, s.ml, s.tx, s.tf, S3), rs]) [1, 0, 2] (ePm 3 rfl (by decide +kernel)) rfl ?_
  refine z_drop ?_
  show eZ x E _ [eSys E (s.a, c3, s.dq, s.da, dh2, gHist s.hs s.m, s.sb, s.sv, s.sN, s.ml, s.tx, s.tf, S3), rs] 23 [some (.ref s.a), some (.int 114), some (.ref na), some (.ref c3.a), none] [.int r] (102 + (2 + 17 * gM (f 0))) (469 + (14 + 88 * gM (f 0)))
  subst hQ_
  refine z_X ?_
  exact z_ret (Γ := [eSys E (s.a, c3, s.dq, s.da, dh2, gHist s.hs s.m, s.sb, s.sv, s.sN, s.ml, s.tx, s.tf, S3)]) C dX0_act_23 rfl rfl (by (try dsimp only); omega) (by (try dsimp only); omega) ⟨(s.a, c3, s.dq, s.da, dh2, gHist s.hs s.m, s.sb, s.sv, s.sN, s.ml, s.tx, s.tf, S3), by rw [hre]; rfl, rfl, by rw [hre]; show ((c3.abs, (gHist s.hs s.m).map Cm.abs, s.tx) : As) = (A2, gHist (s.hs.map Cm.abs) s.m.abs, s.tx); rw [ha3, gHist_map], ⟨by rw [show Sy.m (s.a, c3, s.dq, s.da, dh2, gHist s.hs s.m, s.sb, s.sv, s.sN, s.ml, s.tx, s.tf, S3) = c3 from rfl, ha3]; exact hokA, hS3, fun h hh => by rcases gHist_mem hh with h9 | h9; exact ⟨(hk3 h h9).1, fun z hz => hSS _ ((hk3 h h9).2 z hz)⟩; subst h9; exact ⟨hk1, fun z hz => hSS _ (hk2 z hz)⟩, gHist_len _ _ hk4, hdh2, hk6⟩, rfl⟩

set_option maxHeartbeats 4000000 in
theorem m_act_z {l : Launch} (hl : l.stackTraces = false) (E : eEn) (s : Sy) (hs : sOk s) (na N : Nat) (f : Nat → Int32) (hN : 2 ≤ N) (hN2 : N < 1000) : eMetX l E yX0_act (wsW_ yX0_act cX0_act 5 (some .int) [(12, 23, 24, 13)]) ({ frames := 9, cells := 106, slots := 492, locals := 169 }) [.ref s.a, .int 122, .ref na] [eSys E s, eIA E na N f] (fun w Γ => ∃ s2 : Sy, w = some (.int (gAct s.abs (gDone 122 s.m.abs f)).1) ∧ Γ = [eSys E s2] ∧ s2.abs = (gAct s.abs (gDone 122 s.m.abs f)).2 ∧ sOk s2 ∧ s2.a = s.a) (fun _ _ _ => False) := by
  refine eStartW (cc := cX0_act) (nL := 5) (L := [some (.ref s.a), some (.int 122), some (.ref na), none, none]) hl (by decide) rfl (List.forall_mem_cons.mpr ⟨rfl, (List.forall_mem_cons.mpr ⟨rfl, (List.forall_mem_cons.mpr ⟨rfl, (fun _ h => absurd h List.not_mem_nil)⟩)⟩)⟩) (Nat.le_of_ble_eq_true rfl) ?_
  intro x rs C hT
  show eZ x E (eQX x E (fun w Γ => ∃ s2 : Sy, w = some (.int (gAct s.abs (gDone 122 s.m.abs f)).1) ∧ Γ = [eSys E s2] ∧ s2.abs = (gAct s.abs (gDone 122 s.m.abs f)).2 ∧ sOk s2 ∧ s2.a = s.a) (fun _ _ _ => False) rs) [eSys E s, eIA E na N f, rs] 0 [some (.ref s.a), some (.int 122), some (.ref na), none, none] [] 0 0
  generalize hQ_ : eQX x E (fun w Γ => ∃ s2 : Sy, w = some (.int (gAct s.abs (gDone 122 s.m.abs f)).1) ∧ Γ = [eSys E s2] ∧ s2.abs = (gAct s.abs (gDone 122 s.m.abs f)).2 ∧ sOk s2 ∧ s2.a = s.a) (fun _ _ _ => False) rs = Q_
  obtain ⟨hk1, hk2, hk3, hk4, hk5, hk6⟩ := hs
  refine z_cut 0 (bs := [eO s.a 0 [.ref s.m.a, .ref s.dq, .ref s.sb], eMac E s.m, eAD E s.dq s.da s.dh (hA s.hs), eMacs E s.hs, eSB E s.sb s.sv s.sN s.ml s.tx.length s.tf, eSto s.S]) rfl eSys_cut rfl ?_
  show eZ x E _ [eO s.a 0 [.ref s.m.a, .ref s.dq, .ref s.sb], eMac E s.m, eAD E s.dq s.da s.dh (hA s.hs), eMacs E s.hs, eSB E s.sb s.sv s.sN s.ml s.tx.length s.tf, eSto s.S, eIA E na N f, rs] 0 [some (.ref s.a), some (.int 122), some (.ref na), none, none] [] 0 0
  refine z_new (fs := [.null, .null, .null, .null, .int 0, .int 0, .int 0, .int 0, .int 0, .int 0]) eK1 C dX0_act_0 rfl q101 q102 q50 rfl (Nat.le_of_ble_eq_true rfl) (Nat.le_of_ble_eq_true rfl) (fun o1 => ?_)
  show eZ x E _ [eO s.a 0 [.ref s.m.a, .ref s.dq, .ref s.sb], eMac E s.m, eAD E s.dq s.da s.dh (hA s.hs), eMacs E s.hs, eSB E s.sb s.sv s.sN s.ml s.tx.length s.tf, eSto s.S, eIA E na N f, rs, eO o1 1 [.null, .null, .null, .null, .int 0, .int 0, .int 0, .int 0, .int 0, .int 0]] 3 [some (.ref s.a), some (.int 122), some (.ref na), none, none] [.ref o1] 1 10
  refine z_dup C dX0_act_3 rfl ?_
  refine z_aload_n C dX0_act_4 rfl rfl ?_
  refine z_get eK0 0 0 C dX0_act_5 rfl rfl q399 (eSame1 rfl) (by decide) rfl ?_
  refine z_callI (As := [.ref s.m.a]) (rest := [.ref o1]) (Δ := [eO s.a 0 [.ref s.m.a, .ref s.dq, .ref s.sb], eAD E s.dq s.da s.dh (hA s.hs), eMacs E s.hs, eSB E s.sb s.sv s.sN s.ml s.tx.length s.tf, eIA E na N f, rs]) [8, 1, 5] [0, 2, 3, 4, 6, 7] 1 (m_Machine_init2 hl E o1 s.m s.S hk1 hk2) C dX0_act_8 rfl rfl rfl q419 q420 q50 q421 rfl (by decide +kernel) rfl (ePm 9 rfl (by decide +kernel)) rfl rfl ⟨Nat.le_of_ble_eq_true rfl, Nat.le_of_ble_eq_true rfl⟩ (Nat.le_trans (eSm rfl eS0) (Nat.le_of_ble_eq_true rfl)) ⟨Nat.le_of_ble_eq_true rfl, Nat.le_of_ble_eq_true rfl⟩ (fun v_ Γ_ hp_ => ?_)
  obtain ⟨rfl, c2, rfl, hca, hab, hS2⟩ := hp_
  show eZ x E _ [eMac E c2, eMac E s.m, eSto s.S, eO s.a 0 [.ref s.m.a, .ref s.dq, .ref s.sb], eAD E s.dq s.da s.dh (hA s.hs), eMacs E s.hs, eSB E s.sb s.sv s.sN s.ml s.tx.length s.tf, eIA E na N f, rs] 11 [some (.ref s.a), some (.int 122), some (.ref na), none, none] [.ref o1] 102 469
  subst hca
  have hok2 : gOk c2.abs := by rw [hab]; exact hk1
  show eZ x E _ [eMac E c2, eMac E s.m, eSto s.S, eO s.a 0 [.ref s.m.a, .ref s.dq, .ref s.sb], eAD E s.dq s.da s.dh (hA s.hs), eMacs E s.hs, eSB E s.sb s.sv s.sN s.ml s.tx.length s.tf, eIA E na N f, rs] 11 [some (.ref s.a), some (.int 122), some (.ref na), none, none] [.ref c2.a] 102 469
  refine z_astore_n (L2 := [some (.ref s.a), some (.int 122), some (.ref na), some (.ref c2.a), none]) C dX0_act_11 rfl (Nat.le_of_ble_eq_true rfl) rfl ?_
  refine z_aload_n C dX0_act_12 rfl rfl ?_
  refine z_aload_n C dX0_act_13 rfl rfl ?_
  refine z_aload_n C dX0_act_14 rfl rfl ?_
  refine z_iload_n C dX0_act_15 rfl rfl ?_
  refine z_aload_n C dX0_act_16 rfl rfl ?_
  refine z_callSX (As := [.ref c2.a, .int 122, .ref na]) (rest := [.ref c2.a, .ref s.a]) (Δ := [eMac E s.m, eO s.a 0 [.ref s.m.a, .ref s.dq, .ref s.sb], eAD E s.dq s.da s.dh (hA s.hs), eMacs E s.hs, eSB E s.sb s.sv s.sN s.ml s.tx.length s.tf, rs]) [0, 7, 2] [1, 3, 4, 5, 6, 8] 3 (m_done_z hl E c2 s.S hok2 hS2 na N f hN hN2) C dX0_act_17 rfl rfl rfl q973 q974 q49 q975 (by decide +kernel) rfl (ePm 9 rfl (by decide +kernel)) rfl rfl ⟨Nat.le_of_ble_eq_true rfl, Nat.le_of_ble_eq_true rfl⟩ (Nat.le_trans (eSm rfl (eSm rfl eS0)) (Nat.le_of_ble_eq_true rfl)) ⟨Nat.le_of_ble_eq_true rfl, Nat.le_of_ble_eq_true rfl⟩ (fun q_ En_ Γ_ hx_ => ?_) (fun v_ Γ_ hp_ => ?_)
  · obtain ⟨code, he, rfl, r1, r2, rfl⟩ := hx_
    show eY x E _ [eRfB E q_ code r1 r2, eMac E c2, eIA E na N f, eSto s.S, eMac E s.m, eO s.a 0 [.ref s.m.a, .ref s.dq, .ref s.sb], eAD E s.dq s.da s.dh (hA s.hs), eMacs E s.hs, eSB E s.sb s.sv s.sN s.ml s.tx.length s.tf, rs] 17 [some (.ref s.a), some (.int 122), some (.ref na), some (.ref c2.a), none] [.ref c2.a, .ref s.a] q_ 104 483
    show eY x E _ [eO q_ 6 [.ref q_, va_rf r1, va_rf r2, .ref (E.2.2.2 12), .null, .int 0, .int code], eMac E c2, eIA E na N f, eSto s.S, eMac E s.m, eO s.a 0 [.ref s.m.a, .ref s.dq, .ref s.sb], eAD E s.dq s.da s.dh (hA s.hs), eMacs E s.hs, eSB E s.sb s.sv s.sN s.ml s.tx.length s.tf, rs] 17 [some (.ref s.a), some (.int 122), some (.ref na), some (.ref c2.a), none] [.ref c2.a, .ref s.a] q_ 104 483
    refine z_catch C hT (by decide) (by decide) rfl q418 q1005 (eIn (i := 0) rfl List.mem_cons_self) (show eCl[6]? = some _ from rfl) ?_
    show eZ x E _ [eO q_ 6 [.ref q_, va_rf r1, va_rf r2, .ref (E.2.2.2 12), .null, .int 0, .int code], eMac E c2, eIA E na N f, eSto s.S, eMac E s.m, eO s.a 0 [.ref s.m.a, .ref s.dq, .ref s.sb], eAD E s.dq s.da s.dh (hA s.hs), eMacs E s.hs, eSB E s.sb s.sv s.sN s.ml s.tx.length s.tf, rs] 24 [some (.ref s.a), some (.int 122), some (.ref na), some (.ref c2.a), none] [.ref q_] 104 483
    refine z_astore (L2 := [some (.ref s.a), some (.int 122), some (.ref na), some (.ref c2.a), some (.ref q_)]) C dX0_act_24 (Nat.le_of_ble_eq_true rfl) rfl ?_
    refine z_aload C dX0_act_26 rfl ?_
    refine z_getN eK6 0 6 C dX0_act_28 rfl rfl q1024 (eSame1 rfl) (by decide) rfl ?_
    refine z_pick (Γ' := [eO s.a 0 [.ref s.m.a, .ref s.dq, .ref s.sb], eMac E s.m, eAD E s.dq s.da s.dh (hA s.hs), eMacs E s.hs, eSB E s.sb s.sv s.sN s.ml s.tx.length s.tf, eSto s.S, eO q_ 6 [.ref q_, va_rf r1, va_rf r2, .ref (E.2.2.2 12), .null, .int 0, .int code], eMac E c2, eIA E na N f, rs]) [5, 4, 6, 7, 8, 3, 0, 1, 2, 9] (ePm 10 rfl (by decide +kernel)) rfl ?_
    refine z_join 6 (b := eSys E s) eSys_cut.symm rfl ?_
    show eZ x E _ [eSys E s, eO q_ 6 [.ref q_, va_rf r1, va_rf r2, .ref (E.2.2.2 12), .null, .int 0, .int code], eMac E c2, eIA E na N f, rs] 31 [some (.ref s.a), some (.int 122), some (.ref na), some (.ref c2.a), some (.ref q_)] [.int code] 104 483
    refine z_pick (Γ' := [eO q_ 6 [.ref q_, va_rf r1, va_rf r2, .ref (E.2.2.2 12), .null, .int 0, .int code], eMac E c2, eIA E na N f, eSys E s, rs]) [1, 2, 3, 0, 4] (ePm 5 rfl (by decide +kernel)) rfl ?_
    refine z_drop ?_
    refine z_drop ?_
    refine z_drop ?_
    show eZ x E _ [eSys E s, rs] 31 [some (.ref s.a), some (.int 122), some (.ref na), some (.ref c2.a), some (.ref q_)] [.int code] 104 483
    subst hQ_
    refine z_X ?_
    exact z_ret (Γ := [eSys E s]) C dX0_act_31 rfl rfl (Nat.le_of_ble_eq_true rfl) (Nat.le_of_ble_eq_true rfl) ⟨s, by rw [← hab, he]; rfl, rfl, by rw [← hab, he]; rfl, ⟨hk1, hk2, hk3, hk4, hk5, hk6⟩, rfl⟩
  obtain ⟨r, A2, c3, S3, he, rfl, rfl, ha3, hca3, hS3, hSS⟩ := hp_
  show eZ x E _ [eMac E c3, eIA E na N f, eSto S3, eMac E s.m, eO s.a 0 [.ref s.m.a, .ref s.dq, .ref s.sb], eAD E s.dq s.da s.dh (hA s.hs), eMacs E s.hs, eSB E s.sb s.sv s.sN s.ml s.tx.length s.tf, rs] 20 [some (.ref s.a), some (.int 122), some (.ref na), some (.ref c2.a), none] [.int r, .ref c2.a, .ref s.a] 104 483
  rw [show c2.a = c3.a from hca3.symm]
  show eZ x E _ [eMac E c3, eIA E na N f, eSto S3, eMac E s.m, eO s.a 0 [.ref s.m.a, .ref s.dq, .ref s.sb], eAD E s.dq s.da s.dh (hA s.hs), eMacs E s.hs, eSB E s.sb s.sv s.sN s.ml s.tx.length s.tf, rs] 20 [some (.ref s.a), some (.int 122), some (.ref na), some (.ref c3.a), none] [.int r, .ref c3.a, .ref s.a] 104 483
  refine z_callV (r := (RX0, TX0, 3)) (As := [.ref c3.a, .int r]) (rest := []) (Δ := [eIA E na N f, eSto S3, eSB E s.sb s.sv s.sN s.ml s.tx.length s.tf, rs]) [4, 3, 5, 6, 0] [1, 2, 7, 8] 2 (m_changed hl E s.a s.dq s.da s.dh s.sb s.m c3 s.hs r hk4 hk5) C dX0_act_20 rfl rfl (eIn (i := 4) rfl List.mem_cons_self) rfl rfl q1270 q1272 qs18 q49 q1273 (by decide +kernel) rfl (ePm 9 rfl (by decide +kernel)) rfl rfl ⟨Nat.le_of_ble_eq_true rfl, Nat.le_of_ble_eq_true rfl⟩ (Nat.le_trans eS0 (Nat.le_of_ble_eq_true rfl)) ⟨Nat.le_of_ble_eq_true rfl, Nat.le_of_ble_eq_true rfl⟩ (fun v_ Γ_ hp_ => ?_)
  obtain ⟨rfl, dh2, hdh2, rfl⟩ := hp_
  show eZ x E _ [eO s.a 0 [.ref c3.a, .ref s.dq, .ref s.sb], eAD E s.dq s.da dh2 (hA (gHist s.hs s.m)), eMacs E (gHist s.hs s.m), eMac E c3, eIA E na N f, eSto S3, eSB E s.sb s.sv s.sN s.ml s.tx.length s.tf, rs] 23 [some (.ref s.a), some (.int 122), some (.ref na), some (.ref c3.a), none] [.int r] 104 483
  refine z_pick (Γ' := [eO s.a 0 [.ref c3.a, .ref s.dq, .ref s.sb], eMac E c3, eAD E s.dq s.da dh2 (hA (gHist s.hs s.m)), eMacs E (gHist s.hs s.m), eSB E s.sb s.sv s.sN s.ml s.tx.length s.tf, eSto S3, eIA E na N f, rs]) [0, 3, 1, 2, 6, 5, 4, 7] (ePm 8 rfl (by decide +kernel)) rfl ?_
  refine z_join 6 (b := eSys E (s.a, c3, s.dq, s.da, dh2, gHist s.hs s.m, s.sb, s.sv, s.sN, s.ml, s.tx, s.tf, S3)) (by rw [eSys_cut]; rfl) rfl ?_
  show eZ x E _ [eSys E (s.a, c3, s.dq, s.da, dh2, gHist s.hs s.m, s.sb, s.sv, s.sN, s.ml, s.tx, s.tf, S3), eIA E na N f, rs] 23 [some (.ref s.a), some (.int 122), some (.ref na), some (.ref c3.a), none] [.int r] 104 483
  have hre : gDone 122 s.m.abs f = .inr (r, A2) := by rw [← hab]; exact he
  have hokA : gOk A2 := gDone_ok hk1 hre
  refine z_pick (Γ' := [eIA E na N f, eSys E (s.a, c3, s.dq, s.da, dh2, gHist s.hs s.m, s.sb, s.sv, s.sN, s.ml, s.tx, s.tf, S3), rs]) [1, 0, 2] (ePm 3 rfl (by decide +kernel)) rfl ?_
  refine z_drop ?_
  show eZ x E _ [eSys E (s.a, c3, s.dq, s.da, dh2, gHist s.hs s.m, s.sb, s.sv, s.sN, s.ml, s.tx, s.tf, S3), rs] 23 [some (.ref s.a), some (.int 122), some (.ref na), some (.ref c3.a), none] [.int r] 104 483
  subst hQ_
  refine z_X ?_
  exact z_ret (Γ := [eSys E (s.a, c3, s.dq, s.da, dh2, gHist s.hs s.m, s.sb, s.sv, s.sN, s.ml, s.tx, s.tf, S3)]) C dX0_act_23 rfl rfl (Nat.le_of_ble_eq_true rfl) (Nat.le_of_ble_eq_true rfl) ⟨(s.a, c3, s.dq, s.da, dh2, gHist s.hs s.m, s.sb, s.sv, s.sN, s.ml, s.tx, s.tf, S3), by rw [hre]; rfl, rfl, by rw [hre]; show ((c3.abs, (gHist s.hs s.m).map Cm.abs, s.tx) : As) = (A2, gHist (s.hs.map Cm.abs) s.m.abs, s.tx); rw [ha3, gHist_map], ⟨by rw [show Sy.m (s.a, c3, s.dq, s.da, dh2, gHist s.hs s.m, s.sb, s.sv, s.sN, s.ml, s.tx, s.tf, S3) = c3 from rfl, ha3]; exact hokA, hS3, fun h hh => by rcases gHist_mem hh with h9 | h9; exact ⟨(hk3 h h9).1, fun z hz => hSS _ ((hk3 h h9).2 z hz)⟩; subst h9; exact ⟨hk1, fun z hz => hSS _ (hk2 z hz)⟩, gHist_len _ _ hk4, hdh2, hk6⟩, rfl⟩
