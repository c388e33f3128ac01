/-! ===== orders on a machine ===== -/
set_option maxRecDepth 100000
/-- an order's end: a code, or an answer and the new machine -/
abbrev Gr : Type := Sum Int32 (Int32 × Am)
def gL (A : Am) (ln : Int32) : Lv × List Eg := A.ls.getD (nN ln) ((0, 0, 0, 0, 0), [])
def gSetL (A : Am) (ln : Int32) (l : Lv × List Eg) : Am := (A.ls.set (nN ln) l, A.cs, A.bs, A.st, A.u)
def gOne (A : Am) (ok : Bool) (ln : Int32) (f : Lv → Int32) (s : Lv → Lv) : Gr := if (eBt ln 0 3 && ok) = true then .inr (f (gL A ln).1, gSetL A ln (s (gL A ln).1, (gL A ln).2)) else .inl (-1000001)
def gLights (A : Am) (ln v : Int32) : Gr := gOne A (eBt v 0 99) ln Lv.li (fun q => (v, q.tu, q.st, q.gd, q.ck))
def gTurns (A : Am) (ln v : Int32) : Gr := gOne A (eBt v 1 7) ln Lv.tu (fun q => (q.li, v, q.st, q.gd, q.ck))
def gCleans (A : Am) (ln : Int32) : Gr := gOne A true ln Lv.st (fun q => (q.li, q.tu, 0, q.gd, q.ck))
def gEgOk (g : Eg) : Bool := eBt g.w 30 90 && (eBt g.sh 0 99 && (eBt g.sp 0 255 && (eBt g.y 1 2 && eBt g.c (-1) 7)))
def gCm (A : Am) : Am := (A.ls, A.cs, A.bs, A.st, (A.u.tk, A.u.cm + 1, A.u.dk, A.u.co, A.u.wt, A.u.lk))
def gPuts (A : Am) (ln : Int32) (g : Eg) : Gr := if (eBt ln 0 3 && gEgOk g) = true then (if (gL A ln).2.length < 8 then .inr (nI ((gL A ln).2.length + 1), gCm (gSetL A ln ((gL A ln).1, (gL A ln).2 ++ [g]))) else .inl (-1000003)) else .inl (-1000001)
def gSpE (sp : Int32) (g : Eg) : Eg := (g.w, g.sh, g.y, g.c, g.sp ||| sp, g.t)
def gSpL (sp : Int32) : List Eg → Int32 × List Eg
  | [] => (0, [])
  | [g] => (g.sp ||| sp, [gSpE sp g])
  | g :: h :: t => ((gSpL sp (h :: t)).1, g :: (gSpL sp (h :: t)).2)
def gSpots (A : Am) (ln sp : Int32) : Gr := if (eBt ln 0 3 && eBt sp 0 255) = true then (if (gL A ln).2.isEmpty = true then .inl (-1000002) else .inr ((gSpL sp (gL A ln).2).1, gSetL A ln ((gL A ln).1, (gSpL sp (gL A ln).2).2))) else .inl (-1000001)
def gTicks : Nat → Int32 × Am → Int32 × Am
  | 0, p => p
  | n + 1, p => gTicks n (p.1 + (gTick p.2).1, (gTick p.2).2)
def gRuns (A : Am) (n : Int32) : Gr := if eBt n 1 50 = true then (if A.u.tk + n ≤ 9999 then .inr (gTicks (nN n) (0, A)) else .inl (-1000003)) else .inl (-1000001)
def gSets (A : Am) (w v : Int32) : Gr := if eBt w 0 3 = true then (if eBt v (if w = 0 ∨ w = 1 then 1 else 0) (if w = 0 ∨ w = 3 then 8 else 9) = true then .inr (A.st (nN w), (A.ls, A.cs, A.bs, upd A.st (nN w) v, A.u)) else .inl (-1000001)) else .inl (-1000001)
theorem nN_le {a b : Int32} (ha : 0 ≤ a) (h : a ≤ b) : nN a ≤ nN b := by
  unfold nN
  have h1 := Int32.le_iff_toInt_le.mp h
  have h2 := Int32.le_iff_toInt_le.mp ha
  have h3 : (0 : Int32).toInt = 0 := by decide
  omega
theorem nI_nN {v : Int32} (h : 0 ≤ v) : v = nI (nN v) := by
  apply Int32.toInt_inj.mp
  have h2 := Int32.le_iff_toInt_le.mp h
  have h3 : (0 : Int32).toInt = 0 := by decide
  have h4 := Int32.toInt_lt v
  rw [nI_toInt (by unfold nN; omega)]
  unfold nN; omega
theorem eBt_N {v hi : Int32} (h : eBt v 0 hi = true) : ∃ N, N ≤ nN hi ∧ v = nI N := by
  have h1 := of_decide_eq_true h
  exact ⟨nN v, nN_le h1.1 h1.2, nI_nN h1.1⟩
theorem lV_get {ls : List Cl} {N : Nat} {l : Cl} {d : Lv × List Eg} (h : ls[N]? = some l) : (lV ls).getD N d = (l.v, qG l.zs) := by simp [List.getD, h]
theorem lV_set {ls : List Cl} {N : Nat} {l : Cl} : lV (ls.set N l) = (lV ls).set N (l.v, qG l.zs) := by rw [lV, List.map_set]
theorem lA_set {ls : List Cl} {N : Nat} {l l2 : Cl} (h : ls[N]? = some l) (ha : l2.a = l.a) : lA (ls.set N l2) = lA ls := by
  rw [lA, List.map_set]
  apply List.ext_getElem?
  intro i
  rw [List.getElem?_set]
  split
  · rename_i h0
    subst h0
    obtain ⟨h1, h2⟩ := List.getElem?_eq_some_iff.mp h
    rw [if_pos (by simpa using h1)]
    simp [h, ha]
  · rfl
theorem gL_N {c : Cm} {N : Nat} {l : Cl} (hN : N < 1000) (h : c.lns[N]? = some l) : gL c.abs (nI N) = (l.v, qG l.zs) := by
  rw [gL, nN_nI (by omega)]
  exact lV_get h
theorem gSetL_N {c : Cm} {N : Nat} {l2 : Cl} (hN : N < 1000) : ((lV (c.lns.set N l2), c.crs.map Prod.snd, c.bk.map Prod.snd, c.st, c.u) : Am) = gSetL c.abs (nI N) (l2.v, qG l2.zs) := by
  rw [gSetL, nN_nI (by omega), lV_set]
  rfl

set_option maxHeartbeats 4000000 in
theorem m_lights {l : Launch} (hl : l.stackTraces = false) (E : eEn) (c : Cm) (hok : gOk c.abs) (ln v : Int32) : eMetX l E yX1_lights (ws_ yX1_lights cX1_lights 4 (some .int)) ({ frames := 7, cells := 1, slots := 7, locals := 124 }) [.ref c.a, .int ln, .int v] [eMac E c] (fun w Γ => ∃ r A2 c2, gLights c.abs ln v = .inr (r, A2) ∧ w = some (.int r) ∧ Γ = [eMac E c2] ∧ c2.abs = A2 ∧ c2.a = c.a ∧ c2.bk = c.bk) (fun q En Γ => ∃ code, gLights c.abs ln v = .inl code ∧ En = RX6 ∧ ∃ r1 r2, Γ = [eRfB E q code r1 r2, eMac E c]) := by
  refine eStartX (cc := cX1_lights) (nL := 4) (L := [some (.ref c.a), some (.int ln), some (.int v), none]) hl (by decide) rfl (List.forall_mem_cons.mpr ⟨rfl, (List.forall_mem_cons.mpr ⟨rfl, (List.forall_mem_cons.mpr ⟨rfl, (fun _ h => absurd h List.not_mem_nil)⟩)⟩)⟩) (Nat.le_of_ble_eq_true rfl) ?_
  intro x rs C hT
  show eZ x E (eQX x E (fun w Γ => ∃ r A2 c2, gLights c.abs ln v = .inr (r, A2) ∧ w = some (.int r) ∧ Γ = [eMac E c2] ∧ c2.abs = A2 ∧ c2.a = c.a ∧ c2.bk = c.bk) (fun q En Γ => ∃ code, gLights c.abs ln v = .inl code ∧ En = RX6 ∧ ∃ r1 r2, Γ = [eRfB E q code r1 r2, eMac E c]) rs) [eMac E c, rs] 0 [some (.ref c.a), some (.int ln), some (.int v), none] [] 0 0
  generalize hQ_ : eQX x E (fun w Γ => ∃ r A2 c2, gLights c.abs ln v = .inr (r, A2) ∧ w = some (.int r) ∧ Γ = [eMac E c2] ∧ c2.abs = A2 ∧ c2.a = c.a ∧ c2.bk = c.bk) (fun q En Γ => ∃ code, gLights c.abs ln v = .inl code ∧ En = RX6 ∧ ∃ r1 r2, Γ = [eRfB E q code r1 r2, eMac E c]) rs = Q_
  obtain ⟨hk1, hk2, hk3, hk4, hk5, hk6⟩ := hok
  have hl4 : c.lns.length = 4 := by have h : (lV c.lns).length = 4 := hk1; rw [List.length_map] at h; exact h
  have hl8 : ∀ l ∈ c.lns, l.zs.length ≤ 8 := fun l hl => by have h : (qG l.zs).length ≤ 8 := hk2 _ (List.mem_map.mpr ⟨l, hl, rfl⟩); rw [List.length_map] at h; exact h
  have hc6 : c.crs.length = 6 := by have h : (c.crs.map Prod.snd).length = 6 := hk3; rw [List.length_map] at h; exact h
  have hb10 : c.bk.length ≤ 10 := by have h : (c.bk.map Prod.snd).length ≤ 10 := hk4; rw [List.length_map] at h; exact h
  have hla : (lA c.lns).length ≤ 10 := by rw [List.length_map]; omega
  have hka : (kA c.crs).length ≤ 10 := by rw [List.length_map]; omega
  suffices J_ : eZ x E Q_ [eMac E c, rs] 24 [some (.ref c.a), some (.int ln), some (.int v), none] [.int (eB (eBt ln 0 3 && eBt v 0 99))] 0 0 by
    refine z_iload_n C dX1_lights_0 rfl rfl ?_
    refine z_callSN (As := [.int ln]) (rest := []) (Δ := [eMac E c, rs]) [] [0, 1] 1 (m_isLane hl E ln) C dX1_lights_1 rfl rfl rfl q982 q983 q49 q984 (by decide +kernel) rfl (ePm 2 rfl (by decide +kernel)) rfl rfl ⟨Nat.le_of_ble_eq_true rfl, Nat.le_of_ble_eq_true rfl⟩ (Nat.le_trans eS0 (Nat.le_of_ble_eq_true rfl)) ⟨Nat.le_of_ble_eq_true rfl, Nat.le_of_ble_eq_true rfl⟩ (fun v_ Γ_ hp_ => ?_)
    obtain ⟨rfl, rfl⟩ := hp_
    show eZ x E _ [eMac E c, rs] 4 [some (.ref c.a), some (.int ln), some (.int v), none] [.int (eB (eBt ln 0 3))] 0 0
    refine z_if_eq_B 23 C dX1_lights_4 (by decide) (fun hc0 => ?_) (fun hc0 => ?_)
    · refine z_iconst (v := 0) C dX1_lights_23 (by decide) ?_
      refine z_is (w := eB (eBt ln 0 3 && eBt v 0 99)) (by rw [show (eBt ln 0 3 && eBt v 0 99) = false from by simp [hc0]]; rfl) ?_
      exact J_
    · refine z_iload_n C dX1_lights_7 rfl rfl ?_
      refine z_i2l (v := v.toInt64) C dX1_lights_8 rfl ?_
      refine z_lconst (v := 0) C dX1_lights_9 (by decide) ?_
      refine z_ldc2 C dX1_lights_10 rfl q992 ?_
      refine z_callSN (As := [.long v.toInt64, .long 0, .long 99]) (rest := []) (Δ := [eMac E c, rs]) [] [0, 1] 3 (m_bt hl E v 0 99 0 99 (by decide) (by decide)) C dX1_lights_13 rfl rfl rfl q991 q987 q49 q988 (by decide +kernel) rfl (ePm 2 rfl (by decide +kernel)) rfl rfl ⟨Nat.le_of_ble_eq_true rfl, Nat.le_of_ble_eq_true rfl⟩ (Nat.le_trans eS0 (Nat.le_of_ble_eq_true rfl)) ⟨Nat.le_of_ble_eq_true rfl, Nat.le_of_ble_eq_true rfl⟩ (fun v_ Γ_ hp_ => ?_)
      obtain ⟨rfl, rfl⟩ := hp_
      show eZ x E _ [eMac E c, rs] 16 [some (.ref c.a), some (.int ln), some (.int v), none] [.int (eB (eBt v 0 99))] 0 0
      refine z_if_eq_B 23 C dX1_lights_16 (by decide) (fun hc1 => ?_) (fun hc1 => ?_)
      · refine z_iconst (v := 0) C dX1_lights_23 (by decide) ?_
        refine z_is (w := eB (eBt ln 0 3 && eBt v 0 99)) (by rw [show (eBt ln 0 3 && eBt v 0 99) = false from by simp [hc0, hc1]]; rfl) ?_
        exact J_
      · refine z_iconst (v := 1) C dX1_lights_19 (by decide) ?_
        refine z_goto 24 C dX1_lights_20 (by decide) ?_
        refine z_is (w := eB (eBt ln 0 3 && eBt v 0 99)) (by rw [show (eBt ln 0 3 && eBt v 0 99) = true from by simp [hc0, hc1]]; rfl) ?_
        exact J_
  refine z_ldcw C dX1_lights_24 rfl q1000 ?_
  refine z_callSNX (As := [.int (eB (eBt ln 0 3 && eBt v 0 99)), .int (-1000001)]) (rest := []) (Δ := [eMac E c, rs]) [] [0, 1] 2 (m_need hl E (eBt ln 0 3 && eBt v 0 99) (-1000001)) C dX1_lights_27 rfl rfl rfl q1001 q1002 q49 q1003 (by decide +kernel) rfl (ePm 2 rfl (by decide +kernel)) rfl rfl ⟨Nat.le_of_ble_eq_true rfl, Nat.le_of_ble_eq_true rfl⟩ (Nat.le_trans eS0 (Nat.le_of_ble_eq_true rfl)) ⟨Nat.le_of_ble_eq_true rfl, Nat.le_of_ble_eq_true rfl⟩ (fun q_ En_ Γ_ hx_ => ?_) (fun v_ Γ_ hp_ => ?_)
  · obtain ⟨hb, rfl, r1, r2, rfl⟩ := hx_
    show eY x E _ [eRfB E q_ (-1000001) r1 r2, eMac E c, rs] 27 [some (.ref c.a), some (.int ln), some (.int v), none] [] q_ 1 7
    subst hQ_
    exact z_out (Γ := [eRfB E q_ (-1000001) r1 r2, eMac E c]) C hT (by decide) (eIn (i := 0) rfl List.mem_cons_self) (show eCl[6]? = some _ from rfl) (Nat.le_of_ble_eq_true rfl) (Nat.le_of_ble_eq_true rfl) ⟨_, by rw [gLights, gOne, if_neg (by rw [hb]; decide)], rfl, r1, r2, rfl⟩
  obtain ⟨hb, rfl, rfl⟩ := hp_
  show eZ x E _ [eMac E c, rs] 30 [some (.ref c.a), some (.int ln), some (.int v), none] [] 1 7
  rw [Bool.and_eq_true] at hb
  obtain ⟨N, hN, rfl⟩ := eBt_N (hb.1)
  have hN4 : N < 4 := Nat.lt_succ_of_le hN
  obtain ⟨l_, hln⟩ : ∃ l_, c.lns[N]? = some l_ := ⟨_, List.getElem?_eq_getElem (by omega)⟩
  have hat : (lA c.lns)[N]? = some l_.a := by rw [List.getElem?_map, hln]; rfl
  have hgL : gL c.abs (nI N) = (l_.v, qG l_.zs) := gL_N (by omega) hln
  have hz8 : l_.zs.length ≤ 8 := hl8 l_ (List.mem_of_getElem? hln)
  have hif : (eBt (nI N) 0 3 && eBt v 0 99) = true := by rw [Bool.and_eq_true]; exact hb
  refine z_cut 0 (bs := [eO c.a 1 [.ref c.la, .ref c.ca, .ref c.ba, .ref c.sa, .int c.u.tk, .int c.u.cm, .int c.u.dk, .int c.u.co, .int c.u.wt, .int c.u.lk], eAL E c.la c.lq c.lm (lA c.lns), eLans 0 c.lns, eAL E c.ca c.cq c.cm (kA c.crs), eCrs c.crs, eLL c.ba c.bm (bX c.bk), eIA E c.sa 4 c.st]) rfl eMac_cut rfl ?_
  show eZ x E _ [eO c.a 1 [.ref c.la, .ref c.ca, .ref c.ba, .ref c.sa, .int c.u.tk, .int c.u.cm, .int c.u.dk, .int c.u.co, .int c.u.wt, .int c.u.lk], eAL E c.la c.lq c.lm (lA c.lns), eLans 0 c.lns, eAL E c.ca c.cq c.cm (kA c.crs), eCrs c.crs, eLL c.ba c.bm (bX c.bk), eIA E c.sa 4 c.st, rs] 30 [some (.ref c.a), some (.int (nI N)), some (.int v), none] [] 1 7
  refine z_cut 2 (bs := [eLans 0 (c.lns.take N), eO l_.a 2 [.int (nI N), .ref l_.qa, .int l_.v.li, .int l_.v.tu, .int l_.v.st, .int l_.v.gd, .int l_.v.ck], eLL l_.qa l_.m (qX l_.zs), qE l_.zs, eLans (N + 1) (c.lns.drop (N + 1))]) rfl (by rw [eLans_at hln, eLan_cut]; simp) rfl ?_
  show eZ x E _ [eO c.a 1 [.ref c.la, .ref c.ca, .ref c.ba, .ref c.sa, .int c.u.tk, .int c.u.cm, .int c.u.dk, .int c.u.co, .int c.u.wt, .int c.u.lk], eAL E c.la c.lq c.lm (lA c.lns), eLans 0 (c.lns.take N), eO l_.a 2 [.int (nI N), .ref l_.qa, .int l_.v.li, .int l_.v.tu, .int l_.v.st, .int l_.v.gd, .int l_.v.ck], eLL l_.qa l_.m (qX l_.zs), qE l_.zs, eLans (N + 1) (c.lns.drop (N + 1)), eAL E c.ca c.cq c.cm (kA c.crs), eCrs c.crs, eLL c.ba c.bm (bX c.bk), eIA E c.sa 4 c.st, rs] 30 [some (.ref c.a), some (.int (nI N)), some (.int v), none] [] 1 7
  refine z_aload_n C dX1_lights_30 rfl rfl ?_
  refine z_get eK1 0 0 C dX1_lights_31 rfl rfl q307 (eSame1 rfl) (by decide) rfl ?_
  refine z_iload_n C dX1_lights_34 rfl rfl ?_
  refine z_callV (r := (RJ2, TJ2, 3)) (As := [.int (nI N)]) (rest := []) (Δ := [eO c.a 1 [.ref c.la, .ref c.ca, .ref c.ba, .ref c.sa, .int c.u.tk, .int c.u.cm, .int c.u.dk, .int c.u.co, .int c.u.wt, .int c.u.lk], eLans 0 (c.lns.take N), eO l_.a 2 [.int (nI N), .ref l_.qa, .int l_.v.li, .int l_.v.tu, .int l_.v.st, .int l_.v.gd, .int l_.v.ck], eLL l_.qa l_.m (qX l_.zs), qE l_.zs, eLans (N + 1) (c.lns.drop (N + 1)), eAL E c.ca c.cq c.cm (kA c.crs), eCrs c.crs, eLL c.ba c.bm (bX c.bk), eIA E c.sa 4 c.st, rs]) [1] [0, 2, 3, 4, 5, 6, 7, 8, 9, 10, 11] 1 (m_AL_get hl E c.la c.lq c.lm (lA c.lns) hla N l_.a hat) C dX1_lights_35 rfl rfl (eIn (i := 1) rfl eAL_mem) rfl rfl q1029 q506 q1944 q53 q507 (by decide +kernel) rfl (ePm 12 rfl (by decide +kernel)) rfl rfl ⟨Nat.le_of_ble_eq_true rfl, Nat.le_of_ble_eq_true rfl⟩ (Nat.le_trans eS0 (Nat.le_of_ble_eq_true rfl)) ⟨Nat.le_of_ble_eq_true rfl, Nat.le_of_ble_eq_true rfl⟩ (fun v_ Γ_ hp_ => ?_)
  obtain ⟨rfl, rfl⟩ := hp_
  show eZ x E _ [eAL E c.la c.lq c.lm (lA c.lns), eO c.a 1 [.ref c.la, .ref c.ca, .ref c.ba, .ref c.sa, .int c.u.tk, .int c.u.cm, .int c.u.dk, .int c.u.co, .int c.u.wt, .int c.u.lk], eLans 0 (c.lns.take N), eO l_.a 2 [.int (nI N), .ref l_.qa, .int l_.v.li, .int l_.v.tu, .int l_.v.st, .int l_.v.gd, .int l_.v.ck], eLL l_.qa l_.m (qX l_.zs), qE l_.zs, eLans (N + 1) (c.lns.drop (N + 1)), eAL E c.ca c.cq c.cm (kA c.crs), eCrs c.crs, eLL c.ba c.bm (bX c.bk), eIA E c.sa 4 c.st, rs] 38 [some (.ref c.a), some (.int (nI N)), some (.int v), none] [.ref l_.a] 1 7
  refine z_castE C dX1_lights_38 (eIn (i := 3) rfl List.mem_cons_self) (show eCl[2]? = some _ from rfl) rfl q162 ?_
  refine z_getN eK2 3 2 C dX1_lights_41 rfl rfl q176 (eSame1 rfl) (by decide) rfl ?_
  refine z_istore_n (L2 := [some (.ref c.a), some (.int (nI N)), some (.int v), some (.int l_.v.li)]) C dX1_lights_44 rfl (Nat.le_of_ble_eq_true rfl) rfl ?_
  refine z_aload_n C dX1_lights_45 rfl rfl ?_
  refine z_get eK1 1 0 C dX1_lights_46 rfl rfl q307 (eSame1 rfl) (by decide) rfl ?_
  refine z_iload_n C dX1_lights_49 rfl rfl ?_
  refine z_callV (r := (RJ2, TJ2, 3)) (As := [.int (nI N)]) (rest := []) (Δ := [eO c.a 1 [.ref c.la, .ref c.ca, .ref c.ba, .ref c.sa, .int c.u.tk, .int c.u.cm, .int c.u.dk, .int c.u.co, .int c.u.wt, .int c.u.lk], eLans 0 (c.lns.take N), eO l_.a 2 [.int (nI N), .ref l_.qa, .int l_.v.li, .int l_.v.tu, .int l_.v.st, .int l_.v.gd, .int l_.v.ck], eLL l_.qa l_.m (qX l_.zs), qE l_.zs, eLans (N + 1) (c.lns.drop (N + 1)), eAL E c.ca c.cq c.cm (kA c.crs), eCrs c.crs, eLL c.ba c.bm (bX c.bk), eIA E c.sa 4 c.st, rs]) [0] [1, 2, 3, 4, 5, 6, 7, 8, 9, 10, 11] 1 (m_AL_get hl E c.la c.lq c.lm (lA c.lns) hla N l_.a hat) C dX1_lights_50 rfl rfl (eIn (i := 0) rfl eAL_mem) rfl rfl q1029 q506 q1944 q53 q507 (by decide +kernel) rfl (ePm 12 rfl (by decide +kernel)) rfl rfl ⟨Nat.le_of_ble_eq_true rfl, Nat.le_of_ble_eq_true rfl⟩ (Nat.le_trans eS0 (Nat.le_of_ble_eq_true rfl)) ⟨Nat.le_of_ble_eq_true rfl, Nat.le_of_ble_eq_true rfl⟩ (fun v_ Γ_ hp_ => ?_)
  obtain ⟨rfl, rfl⟩ := hp_
  show eZ x E _ [eAL E c.la c.lq c.lm (lA c.lns), eO c.a 1 [.ref c.la, .ref c.ca, .ref c.ba, .ref c.sa, .int c.u.tk, .int c.u.cm, .int c.u.dk, .int c.u.co, .int c.u.wt, .int c.u.lk], eLans 0 (c.lns.take N), eO l_.a 2 [.int (nI N), .ref l_.qa, .int l_.v.li, .int l_.v.tu, .int l_.v.st, .int l_.v.gd, .int l_.v.ck], eLL l_.qa l_.m (qX l_.zs), qE l_.zs, eLans (N + 1) (c.lns.drop (N + 1)), eAL E c.ca c.cq c.cm (kA c.crs), eCrs c.crs, eLL c.ba c.bm (bX c.bk), eIA E c.sa 4 c.st, rs] 53 [some (.ref c.a), some (.int (nI N)), some (.int v), some (.int l_.v.li)] [.ref l_.a] 1 7
  refine z_castE C dX1_lights_53 (eIn (i := 3) rfl List.mem_cons_self) (show eCl[2]? = some _ from rfl) rfl q162 ?_
  refine z_iload_n C dX1_lights_56 rfl rfl ?_
  refine z_putN eK2 3 2 (Γ2 := [eAL E c.la c.lq c.lm (lA c.lns), eO c.a 1 [.ref c.la, .ref c.ca, .ref c.ba, .ref c.sa, .int c.u.tk, .int c.u.cm, .int c.u.dk, .int c.u.co, .int c.u.wt, .int c.u.lk], eLans 0 (c.lns.take N), eO l_.a 2 [.int (nI N), .ref l_.qa, .int v, .int l_.v.tu, .int l_.v.st, .int l_.v.gd, .int l_.v.ck], eLL l_.qa l_.m (qX l_.zs), qE l_.zs, eLans (N + 1) (c.lns.drop (N + 1)), eAL E c.ca c.cq c.cm (kA c.crs), eCrs c.crs, eLL c.ba c.bm (bX c.bk), eIA E c.sa 4 c.st, rs]) C dX1_lights_57 rfl rfl q176 (eSame1 rfl) (by decide) rfl rfl rfl rfl (Nat.le_of_ble_eq_true rfl) rfl ?_
  refine z_iload_n C dX1_lights_60 rfl rfl ?_
  have hla2 : lA (c.lns.set N (l_.a, l_.qa, l_.m, l_.zs, (v, l_.v.tu, l_.v.st, l_.v.gd, l_.v.ck))) = lA c.lns := lA_set hln rfl
  refine z_pick (Γ' := [eLans 0 (c.lns.take N), eO l_.a 2 [.int (nI N), .ref l_.qa, .int v, .int l_.v.tu, .int l_.v.st, .int l_.v.gd, .int l_.v.ck], eLL l_.qa l_.m (qX l_.zs), qE l_.zs, eLans (N + 1) (c.lns.drop (N + 1)), eAL E c.la c.lq c.lm (lA c.lns), eO c.a 1 [.ref c.la, .ref c.ca, .ref c.ba, .ref c.sa, .int c.u.tk, .int c.u.cm, .int c.u.dk, .int c.u.co, .int c.u.wt, .int c.u.lk], eAL E c.ca c.cq c.cm (kA c.crs), eCrs c.crs, eLL c.ba c.bm (bX c.bk), eIA E c.sa 4 c.st, rs]) [2, 3, 4, 5, 6, 0, 1, 7, 8, 9, 10, 11] (ePm 12 rfl (by decide +kernel)) rfl ?_
  refine z_join 5 (b := eLans 0 (c.lns.set N (l_.a, l_.qa, l_.m, l_.zs, (v, l_.v.tu, l_.v.st, l_.v.gd, l_.v.ck)))) (by rw [eLans_set (by omega), eLan_cut]; simp only [List.take, List.flatten_cons, List.flatten_nil, List.append_nil, List.append_assoc]; try rfl) rfl ?_
  show eZ x E _ [eLans 0 (c.lns.set N (l_.a, l_.qa, l_.m, l_.zs, (v, l_.v.tu, l_.v.st, l_.v.gd, l_.v.ck))), eAL E c.la c.lq c.lm (lA c.lns), eO c.a 1 [.ref c.la, .ref c.ca, .ref c.ba, .ref c.sa, .int c.u.tk, .int c.u.cm, .int c.u.dk, .int c.u.co, .int c.u.wt, .int c.u.lk], eAL E c.ca c.cq c.cm (kA c.crs), eCrs c.crs, eLL c.ba c.bm (bX c.bk), eIA E c.sa 4 c.st, rs] 61 [some (.ref c.a), some (.int (nI N)), some (.int v), some (.int l_.v.li)] [.int l_.v.li] 1 7
  refine z_pick (Γ' := [eO c.a 1 [.ref c.la, .ref c.ca, .ref c.ba, .ref c.sa, .int c.u.tk, .int c.u.cm, .int c.u.dk, .int c.u.co, .int c.u.wt, .int c.u.lk], eAL E c.la c.lq c.lm (lA c.lns), eLans 0 (c.lns.set N (l_.a, l_.qa, l_.m, l_.zs, (v, l_.v.tu, l_.v.st, l_.v.gd, l_.v.ck))), eAL E c.ca c.cq c.cm (kA c.crs), eCrs c.crs, eLL c.ba c.bm (bX c.bk), eIA E c.sa 4 c.st, rs]) [2, 1, 0, 3, 4, 5, 6, 7] (ePm 8 rfl (by decide +kernel)) rfl ?_
  refine z_join 7 (b := eMac E (c.a, c.la, c.lq, c.lm, (c.lns.set N (l_.a, l_.qa, l_.m, l_.zs, (v, l_.v.tu, l_.v.st, l_.v.gd, l_.v.ck))), c.ca, c.cq, c.cm, c.crs, c.ba, c.bm, c.bk, c.sa, c.st, c.u)) (by rw [eMac_cut]; simp only [List.take]; rw [← hla2]; try rfl) rfl ?_
  show eZ x E _ [eMac E (c.a, c.la, c.lq, c.lm, (c.lns.set N (l_.a, l_.qa, l_.m, l_.zs, (v, l_.v.tu, l_.v.st, l_.v.gd, l_.v.ck))), c.ca, c.cq, c.cm, c.crs, c.ba, c.bm, c.bk, c.sa, c.st, c.u), rs] 61 [some (.ref c.a), some (.int (nI N)), some (.int v), some (.int l_.v.li)] [.int l_.v.li] 1 7
  refine z_pick (Γ' := [eMac E (c.a, c.la, c.lq, c.lm, (c.lns.set N (l_.a, l_.qa, l_.m, l_.zs, (v, l_.v.tu, l_.v.st, l_.v.gd, l_.v.ck))), c.ca, c.cq, c.cm, c.crs, c.ba, c.bm, c.bk, c.sa, c.st, c.u), rs]) [0, 1] (ePm 2 rfl (by decide +kernel)) rfl ?_
  subst hQ_
  refine z_X ?_
  exact z_ret (Γ := [eMac E (c.a, c.la, c.lq, c.lm, (c.lns.set N (l_.a, l_.qa, l_.m, l_.zs, (v, l_.v.tu, l_.v.st, l_.v.gd, l_.v.ck))), c.ca, c.cq, c.cm, c.crs, c.ba, c.bm, c.bk, c.sa, c.st, c.u)]) C dX1_lights_61 rfl rfl (Nat.le_of_ble_eq_true rfl) (Nat.le_of_ble_eq_true rfl) ⟨_, _, (c.a, c.la, c.lq, c.lm, (c.lns.set N (l_.a, l_.qa, l_.m, l_.zs, (v, l_.v.tu, l_.v.st, l_.v.gd, l_.v.ck))), c.ca, c.cq, c.cm, c.crs, c.ba, c.bm, c.bk, c.sa, c.st, c.u), by rw [gLights, gOne, if_pos hif, hgL], rfl, rfl, gSetL_N (l2 := (l_.a, l_.qa, l_.m, l_.zs, (v, l_.v.tu, l_.v.st, l_.v.gd, l_.v.ck))) (by omega), rfl, rfl⟩

set_option maxHeartbeats 4000000 in
theorem m_turns {l : Launch} (hl : l.stackTraces = false) (E : eEn) (c : Cm) (hok : gOk c.abs) (ln v : Int32) : eMetX l E yX1_turns (ws_ yX1_turns cX1_turns 4 (some .int)) ({ frames := 7, cells := 1, slots := 7, locals := 124 }) [.ref c.a, .int ln, .int v] [eMac E c] (fun w Γ => ∃ r A2 c2, gTurns c.abs ln v = .inr (r, A2) ∧ w = some (.int r) ∧ Γ = [eMac E c2] ∧ c2.abs = A2 ∧ c2.a = c.a ∧ c2.bk = c.bk) (fun q En Γ => ∃ code, gTurns c.abs ln v = .inl code ∧ En = RX6 ∧ ∃ r1 r2, Γ = [eRfB E q code r1 r2, eMac E c]) := by
  refine eStartX (cc := cX1_turns) (nL := 4) (L := [some (.ref c.a), some (.int ln), some (.int v), none]) hl (by decide) rfl (List.forall_mem_cons.mpr ⟨rfl, (List.forall_mem_cons.mpr ⟨rfl, (List.forall_mem_cons.mpr ⟨rfl, (fun _ h => absurd h List.not_mem_nil)⟩)⟩)⟩) (Nat.le_of_ble_eq_true rfl) ?_
  intro x rs C hT
  show eZ x E (eQX x E (fun w Γ => ∃ r A2 c2, gTurns c.abs ln v = .inr (r, A2) ∧ w = some (.int r) ∧ Γ = [eMac E c2] ∧ c2.abs = A2 ∧ c2.a = c.a ∧ c2.bk = c.bk) (fun q En Γ => ∃ code, gTurns c.abs ln v = .inl code ∧ En = RX6 ∧ ∃ r1 r2, Γ = [eRfB E q code r1 r2, eMac E c]) rs) [eMac E c, rs] 0 [some (.ref c.a), some (.int ln), some (.int v), none] [] 0 0
  generalize hQ_ : eQX x E (fun w Γ => ∃ r A2 c2, gTurns c.abs ln v = .inr (r, A2) ∧ w = some (.int r) ∧ Γ = [eMac E c2] ∧ c2.abs = A2 ∧ c2.a = c.a ∧ c2.bk = c.bk) (fun q En Γ => ∃ code, gTurns c.abs ln v = .inl code ∧ En = RX6 ∧ ∃ r1 r2, Γ = [eRfB E q code r1 r2, eMac E c]) rs = Q_
  obtain ⟨hk1, hk2, hk3, hk4, hk5, hk6⟩ := hok
  have hl4 : c.lns.length = 4 := by have h : (lV c.lns).length = 4 := hk1; rw [List.length_map] at h; exact h
  have hl8 : ∀ l ∈ c.lns, l.zs.length ≤ 8 := fun l hl => by have h : (qG l.zs).length ≤ 8 := hk2 _ (List.mem_map.mpr ⟨l, hl, rfl⟩); rw [List.length_map] at h; exact h
  have hc6 : c.crs.length = 6 := by have h : (c.crs.map Prod.snd).length = 6 := hk3; rw [List.length_map] at h; exact h
  have hb10 : c.bk.length ≤ 10 := by have h : (c.bk.map Prod.snd).length ≤ 10 := hk4; rw [List.length_map] at h; exact h
  have hla : (lA c.lns).length ≤ 10 := by rw [List.length_map]; omega
  have hka : (kA c.crs).length ≤ 10 := by rw [List.length_map]; omega
  suffices J_ : eZ x E Q_ [eMac E c, rs] 24 [some (.ref c.a), some (.int ln), some (.int v), none] [.int (eB (eBt ln 0 3 && eBt v 1 7))] 0 0 by
    refine z_iload_n C dX1_turns_0 rfl rfl ?_
    refine z_callSN (As := [.int ln]) (rest := []) (Δ := [eMac E c, rs]) [] [0, 1] 1 (m_isLane hl E ln) C dX1_turns_1 rfl rfl rfl q982 q983 q49 q984 (by decide +kernel) rfl (ePm 2 rfl (by decide +kernel)) rfl rfl ⟨Nat.le_of_ble_eq_true rfl, Nat.le_of_ble_eq_true rfl⟩ (Nat.le_trans eS0 (Nat.le_of_ble_eq_true rfl)) ⟨Nat.le_of_ble_eq_true rfl, Nat.le_of_ble_eq_true rfl⟩ (fun v_ Γ_ hp_ => ?_)
    obtain ⟨rfl, rfl⟩ := hp_
    show eZ x E _ [eMac E c, rs] 4 [some (.ref c.a), some (.int ln), some (.int v), none] [.int (eB (eBt ln 0 3))] 0 0
    refine z_if_eq_B 23 C dX1_turns_4 (by decide) (fun hc0 => ?_) (fun hc0 => ?_)
    · refine z_iconst (v := 0) C dX1_turns_23 (by decide) ?_
      refine z_is (w := eB (eBt ln 0 3 && eBt v 1 7)) (by rw [show (eBt ln 0 3 && eBt v 1 7) = false from by simp [hc0]]; rfl) ?_
      exact J_
    · refine z_iload_n C dX1_turns_7 rfl rfl ?_
      refine z_i2l (v := v.toInt64) C dX1_turns_8 rfl ?_
      refine z_lconst (v := 1) C dX1_turns_9 (by decide) ?_
      refine z_ldc2 C dX1_turns_10 rfl q999 ?_
      refine z_callSN (As := [.long v.toInt64, .long 1, .long 7]) (rest := []) (Δ := [eMac E c, rs]) [] [0, 1] 3 (m_bt hl E v 1 7 1 7 (by decide) (by decide)) C dX1_turns_13 rfl rfl rfl q991 q987 q49 q988 (by decide +kernel) rfl (ePm 2 rfl (by decide +kernel)) rfl rfl ⟨Nat.le_of_ble_eq_true rfl, Nat.le_of_ble_eq_true rfl⟩ (Nat.le_trans eS0 (Nat.le_of_ble_eq_true rfl)) ⟨Nat.le_of_ble_eq_true rfl, Nat.le_of_ble_eq_true rfl⟩ (fun v_ Γ_ hp_ => ?_)
      obtain ⟨rfl, rfl⟩ := hp_
      show eZ x E _ [eMac E c, rs] 16 [some (.ref c.a), some (.int ln), some (.int v), none] [.int (eB (eBt v 1 7))] 0 0
      refine z_if_eq_B 23 C dX1_turns_16 (by decide) (fun hc1 => ?_) (fun hc1 => ?_)
      · refine z_iconst (v := 0) C dX1_turns_23 (by decide) ?_
        refine z_is (w := eB (eBt ln 0 3 && eBt v 1 7)) (by rw [show (eBt ln 0 3 && eBt v 1 7) = false from by simp [hc0, hc1]]; rfl) ?_
        exact J_
      · refine z_iconst (v := 1) C dX1_turns_19 (by decide) ?_
        refine z_goto 24 C dX1_turns_20 (by decide) ?_
        refine z_is (w := eB (eBt ln 0 3 && eBt v 1 7)) (by rw [show (eBt ln 0 3 && eBt v 1 7) = true from by simp [hc0, hc1]]; rfl) ?_
        exact J_
  refine z_ldcw C dX1_turns_24 rfl q1000 ?_
  refine z_callSNX (As := [.int (eB (eBt ln 0 3 && eBt v 1 7)), .int (-1000001)]) (rest := []) (Δ := [eMac E c, rs]) [] [0, 1] 2 (m_need hl E (eBt ln 0 3 && eBt v 1 7) (-1000001)) C dX1_turns_27 rfl rfl rfl q1001 q1002 q49 q1003 (by decide +kernel) rfl (ePm 2 rfl (by decide +kernel)) rfl rfl ⟨Nat.le_of_ble_eq_true rfl, Nat.le_of_ble_eq_true rfl⟩ (Nat.le_trans eS0 (Nat.le_of_ble_eq_true rfl)) ⟨Nat.le_of_ble_eq_true rfl, Nat.le_of_ble_eq_true rfl⟩ (fun q_ En_ Γ_ hx_ => ?_) (fun v_ Γ_ hp_ => ?_)
  · obtain ⟨hb, rfl, r1, r2, rfl⟩ := hx_
    show eY x E _ [eRfB E q_ (-1000001) r1 r2, eMac E c, rs] 27 [some (.ref c.a), some (.int ln), some (.int v), none] [] q_ 1 7
    subst hQ_
    exact z_out (Γ := [eRfB E q_ (-1000001) r1 r2, eMac E c]) C hT (by decide) (eIn (i := 0) rfl List.mem_cons_self) (show eCl[6]? = some _ from rfl) (Nat.le_of_ble_eq_true rfl) (Nat.le_of_ble_eq_true rfl) ⟨_, by rw [gTurns, gOne, if_neg (by rw [hb]; decide)], rfl, r1, r2, rfl⟩
  obtain ⟨hb, rfl, rfl⟩ := hp_
  show eZ x E _ [eMac E c, rs] 30 [some (.ref c.a), some (.int ln), some (.int v), none] [] 1 7
  rw [Bool.and_eq_true] at hb
  obtain ⟨N, hN, rfl⟩ := eBt_N (hb.1)
  have hN4 : N < 4 := Nat.lt_succ_of_le hN
  obtain ⟨l_, hln⟩ : ∃ l_, c.lns[N]? = some l_ := ⟨_, List.getElem?_eq_getElem (by omega)⟩
  have hat : (lA c.lns)[N]? = some l_.a := by rw [List.getElem?_map, hln]; rfl
  have hgL : gL c.abs (nI N) = (l_.v, qG l_.zs) := gL_N (by omega) hln
  have hz8 : l_.zs.length ≤ 8 := hl8 l_ (List.mem_of_getElem? hln)
  have hif : (eBt (nI N) 0 3 && eBt v 1 7) = true := by rw [Bool.and_eq_true]; exact hb
  refine z_cut 0 (bs := [eO c.a 1 [.ref c.la, .ref c.ca, .ref c.ba, .ref c.sa, .int c.u.tk, .int c.u.cm, .int c.u.dk, .int c.u.co, .int c.u.wt, .int c.u.lk], eAL E c.la c.lq c.lm (lA c.lns), eLans 0 c.lns, eAL E c.ca c.cq c.cm (kA c.crs), eCrs c.crs, eLL c.ba c.bm (bX c.bk), eIA E c.sa 4 c.st]) rfl eMac_cut rfl ?_
  show eZ x E _ [eO c.a 1 [.ref c.la, .ref c.ca, .ref c.ba, .ref c.sa, .int c.u.tk, .int c.u.cm, .int c.u.dk, .int c.u.co, .int c.u.wt, .int c.u.lk], eAL E c.la c.lq c.lm (lA c.lns), eLans 0 c.lns, eAL E c.ca c.cq c.cm (kA c.crs), eCrs c.crs, eLL c.ba c.bm (bX c.bk), eIA E c.sa 4 c.st, rs] 30 [some (.ref c.a), some (.int (nI N)), some (.int v), none] [] 1 7
  refine z_cut 2 (bs := [eLans 0 (c.lns.take N), eO l_.a 2 [.int (nI N), .ref l_.qa, .int l_.v.li, .int l_.v.tu, .int l_.v.st, .int l_.v.gd, .int l_.v.ck], eLL l_.qa l_.m (qX l_.zs), qE l_.zs, eLans (N + 1) (c.lns.drop (N + 1))]) rfl (by rw [eLans_at hln, eLan_cut]; simp) rfl ?_
  show eZ x E _ [eO c.a 1 [.ref c.la, .ref c.ca, .ref c.ba, .ref c.sa, .int c.u.tk, .int c.u.cm, .int c.u.dk, .int c.u.co, .int c.u.wt, .int c.u.lk], eAL E c.la c.lq c.lm (lA c.lns), eLans 0 (c.lns.take N), eO l_.a 2 [.int (nI N), .ref l_.qa, .int l_.v.li, .int l_.v.tu, .int l_.v.st, .int l_.v.gd, .int l_.v.ck], eLL l_.qa l_.m (qX l_.zs), qE l_.zs, eLans (N + 1) (c.lns.drop (N + 1)), eAL E c.ca c.cq c.cm (kA c.crs), eCrs c.crs, eLL c.ba c.bm (bX c.bk), eIA E c.sa 4 c.st, rs] 30 [some (.ref c.a), some (.int (nI N)), some (.int v), none] [] 1 7
  refine z_aload_n C dX1_turns_30 rfl rfl ?_
  refine z_get eK1 0 0 C dX1_turns_31 rfl rfl q307 (eSame1 rfl) (by decide) rfl ?_
  refine z_iload_n C dX1_turns_34 rfl rfl ?_
  refine z_callV (r := (RJ2, TJ2, 3)) (As := [.int (nI N)]) (rest := []) (Δ := [eO c.a 1 [.ref c.la, .ref c.ca, .ref c.ba, .ref c.sa, .int c.u.tk, .int c.u.cm, .int c.u.dk, .int c.u.co, .int c.u.wt, .int c.u.lk], eLans 0 (c.lns.take N), eO l_.a 2 [.int (nI N), .ref l_.qa, .int l_.v.li, .int l_.v.tu, .int l_.v.st, .int l_.v.gd, .int l_.v.ck], eLL l_.qa l_.m (qX l_.zs), qE l_.zs, eLans (N + 1) (c.lns.drop (N + 1)), eAL E c.ca c.cq c.cm (kA c.crs), eCrs c.crs, eLL c.ba c.bm (bX c.bk), eIA E c.sa 4 c.st, rs]) [1] [0, 2, 3, 4, 5, 6, 7, 8, 9, 10, 11] 1 (m_AL_get hl E c.la c.lq c.lm (lA c.lns) hla N l_.a hat) C dX1_turns_35 rfl rfl (eIn (i := 1) rfl eAL_mem) rfl rfl q1029 q506 q1944 q53 q507 (by decide +kernel) rfl (ePm 12 rfl (by decide +kernel)) rfl rfl ⟨Nat.le_of_ble_eq_true rfl, Nat.le_of_ble_eq_true rfl⟩ (Nat.le_trans eS0 (Nat.le_of_ble_eq_true rfl)) ⟨Nat.le_of_ble_eq_true rfl, Nat.le_of_ble_eq_true rfl⟩ (fun v_ Γ_ hp_ => ?_)
  obtain ⟨rfl, rfl⟩ := hp_
  show eZ x E _ [eAL E c.la c.lq c.lm (lA c.lns), eO c.a 1 [.ref c.la, .ref c.ca, .ref c.ba, .ref c.sa, .int c.u.tk, .int c.u.cm, .int c.u.dk, .int c.u.co, .int c.u.wt, .int c.u.lk], eLans 0 (c.lns.take N), eO l_.a 2 [.int (nI N), .ref l_.qa, .int l_.v.li, .int l_.v.tu, .int l_.v.st, .int l_.v.gd, .int l_.v.ck], eLL l_.qa l_.m (qX l_.zs), qE l_.zs, eLans (N + 1) (c.lns.drop (N + 1)), eAL E c.ca c.cq c.cm (kA c.crs), eCrs c.crs, eLL c.ba c.bm (bX c.bk), eIA E c.sa 4 c.st, rs] 38 [some (.ref c.a), some (.int (nI N)), some (.int v), none] [.ref l_.a] 1 7
  refine z_castE C dX1_turns_38 (eIn (i := 3) rfl List.mem_cons_self) (show eCl[2]? = some _ from rfl) rfl q162 ?_
  refine z_getN eK2 3 3 C dX1_turns_41 rfl rfl q179 (eSame1 rfl) (by decide) rfl ?_
  refine z_istore_n (L2 := [some (.ref c.a), some (.int (nI N)), some (.int v), some (.int l_.v.tu)]) C dX1_turns_44 rfl (Nat.le_of_ble_eq_true rfl) rfl ?_
  refine z_aload_n C dX1_turns_45 rfl rfl ?_
  refine z_get eK1 1 0 C dX1_turns_46 rfl rfl q307 (eSame1 rfl) (by decide) rfl ?_
  refine z_iload_n C dX1_turns_49 rfl rfl ?_
  refine z_callV (r := (RJ2, TJ2, 3)) (As := [.int (nI N)]) (rest := []) (Δ := [eO c.a 1 [.ref c.la, .ref c.ca, .ref c.ba, .ref c.sa, .int c.u.tk, .int c.u.cm, .int c.u.dk, .int c.u.co, .int c.u.wt, .int c.u.lk], eLans 0 (c.lns.take N), eO l_.a 2 [.int (nI N), .ref l_.qa, .int l_.v.li, .int l_.v.tu, .int l_.v.st, .int l_.v.gd, .int l_.v.ck], eLL l_.qa l_.m (qX l_.zs), qE l_.zs, eLans (N + 1) (c.lns.drop (N + 1)), eAL E c.ca c.cq c.cm (kA c.crs), eCrs c.crs, eLL c.ba c.bm (bX c.bk), eIA E c.sa 4 c.st, rs]) [0] [1, 2, 3, 4, 5, 6, 7, 8, 9, 10, 11] 1 (m_AL_get hl E c.la c.lq c.lm (lA c.lns) hla N l_.a hat) C dX1_turns_50 rfl rfl (eIn (i := 0) rfl eAL_mem) rfl rfl q1029 q506 q1944 q53 q507 (by decide +kernel) rfl (ePm 12 rfl (by decide +kernel)) rfl rfl ⟨Nat.le_of_ble_eq_true rfl, Nat.le_of_ble_eq_true rfl⟩ (Nat.le_trans eS0 (Nat.le_of_ble_eq_true rfl)) ⟨Nat.le_of_ble_eq_true rfl, Nat.le_of_ble_eq_true rfl⟩ (fun v_ Γ_ hp_ => ?_)
  obtain ⟨rfl, rfl⟩ := hp_
  show eZ x E _ [eAL E c.la c.lq c.lm (lA c.lns), eO c.a 1 [.ref c.la, .ref c.ca, .ref c.ba, .ref c.sa, .int c.u.tk, .int c.u.cm, .int c.u.dk, .int c.u.co, .int c.u.wt, .int c.u.lk], eLans 0 (c.lns.take N), eO l_.a 2 [.int (nI N), .ref l_.qa, .int l_.v.li, .int l_.v.tu, .int l_.v.st, .int l_.v.gd, .int l_.v.ck], eLL l_.qa l_.m (qX l_.zs), qE l_.zs, eLans (N + 1) (c.lns.drop (N + 1)), eAL E c.ca c.cq c.cm (kA c.crs), eCrs c.crs, eLL c.ba c.bm (bX c.bk), eIA E c.sa 4 c.st, rs] 53 [some (.ref c.a), some (.int (nI N)), some (.int v), some (.int l_.v.tu)] [.ref l_.a] 1 7
  refine z_castE C dX1_turns_53 (eIn (i := 3) rfl List.mem_cons_self) (show eCl[2]? = some _ from rfl) rfl q162 ?_
  refine z_iload_n C dX1_turns_56 rfl rfl ?_
  refine z_putN eK2 3 3 (Γ2 := [eAL E c.la c.lq c.lm (lA c.lns), eO c.a 1 [.ref c.la, .ref c.ca, .ref c.ba, .ref c.sa, .int c.u.tk, .int c.u.cm, .int c.u.dk, .int c.u.co, .int c.u.wt, .int c.u.lk], eLans 0 (c.lns.take N), eO l_.a 2 [.int (nI N), .ref l_.qa, .int l_.v.li, .int v, .int l_.v.st, .int l_.v.gd, .int l_.v.ck], eLL l_.qa l_.m (qX l_.zs), qE l_.zs, eLans (N + 1) (c.lns.drop (N + 1)), eAL E c.ca c.cq c.cm (kA c.crs), eCrs c.crs, eLL c.ba c.bm (bX c.bk), eIA E c.sa 4 c.st, rs]) C dX1_turns_57 rfl rfl q179 (eSame1 rfl) (by decide) rfl rfl rfl rfl (Nat.le_of_ble_eq_true rfl) rfl ?_
  refine z_iload_n C dX1_turns_60 rfl rfl ?_
  have hla2 : lA (c.lns.set N (l_.a, l_.qa, l_.m, l_.zs, (l_.v.li, v, l_.v.st, l_.v.gd, l_.v.ck))) = lA c.lns := lA_set hln rfl
  refine z_pick (Γ' := [eLans 0 (c.lns.take N), eO l_.a 2 [.int (nI N), .ref l_.qa, .int l_.v.li, .int v, .int l_.v.st, .int l_.v.gd, .int l_.v.ck], eLL l_.qa l_.m (qX l_.zs), qE l_.zs, eLans (N + 1) (c.lns.drop (N + 1)), eAL E c.la c.lq c.lm (lA c.lns), eO c.a 1 [.ref c.la, .ref c.ca, .ref c.ba, .ref c.sa, .int c.u.tk, .int c.u.cm, .int c.u.dk, .int c.u.co, .int c.u.wt, .int c.u.lk], eAL E c.ca c.cq c.cm (kA c.crs), eCrs c.crs, eLL c.ba c.bm (bX c.bk), eIA E c.sa 4 c.st, rs]) [2, 3, 4, 5, 6, 0, 1, 7, 8, 9, 10, 11] (ePm 12 rfl (by decide +kernel)) rfl ?_
  refine z_join 5 (b := eLans 0 (c.lns.set N (l_.a, l_.qa, l_.m, l_.zs, (l_.v.li, v, l_.v.st, l_.v.gd, l_.v.ck)))) (by rw [eLans_set (by omega), eLan_cut]; simp only [List.take, List.flatten_cons, List.flatten_nil, List.append_nil, List.append_assoc]; try rfl) rfl ?_
  show eZ x E _ [eLans 0 (c.lns.set N (l_.a, l_.qa, l_.m, l_.zs, (l_.v.li, v, l_.v.st, l_.v.gd, l_.v.ck))), eAL E c.la c.lq c.lm (lA c.lns), eO c.a 1 [.ref c.la, .ref c.ca, .ref c.ba, .ref c.sa, .int c.u.tk, .int c.u.cm, .int c.u.dk, .int c.u.co, .int c.u.wt, .int c.u.lk], eAL E c.ca c.cq c.cm (kA c.crs), eCrs c.crs, eLL c.ba c.bm (bX c.bk), eIA E c.sa 4 c.st, rs] 61 [some (.ref c.a), some (.int (nI N)), some (.int v), some (.int l_.v.tu)] [.int l_.v.tu] 1 7
  refine z_pick (Γ' := [eO c.a 1 [.ref c.la, .ref c.ca, .ref c.ba, .ref c.sa, .int c.u.tk, .int c.u.cm, .int c.u.dk, .int c.u.co, .int c.u.wt, .int c.u.lk], eAL E c.la c.lq c.lm (lA c.lns), eLans 0 (c.lns.set N (l_.a, l_.qa, l_.m, l_.zs, (l_.v.li, v, l_.v.st, l_.v.gd, l_.v.ck))), eAL E c.ca c.cq c.cm (kA c.crs), eCrs c.crs, eLL c.ba c.bm (bX c.bk), eIA E c.sa 4 c.st, rs]) [2, 1, 0, 3, 4, 5, 6, 7] (ePm 8 rfl (by decide +kernel)) rfl ?_
  refine z_join 7 (b := eMac E (c.a, c.la, c.lq, c.lm, (c.lns.set N (l_.a, l_.qa, l_.m, l_.zs, (l_.v.li, v, l_.v.st, l_.v.gd, l_.v.ck))), c.ca, c.cq, c.cm, c.crs, c.ba, c.bm, c.bk, c.sa, c.st, c.u)) (by rw [eMac_cut]; simp only [List.take]; rw [← hla2]; try rfl) rfl ?_
  show eZ x E _ [eMac E (c.a, c.la, c.lq, c.lm, (c.lns.set N (l_.a, l_.qa, l_.m, l_.zs, (l_.v.li, v, l_.v.st, l_.v.gd, l_.v.ck))), c.ca, c.cq, c.cm, c.crs, c.ba, c.bm, c.bk, c.sa, c.st, c.u), rs] 61 [some (.ref c.a), some (.int (nI N)), some (.int v), some (.int l_.v.tu)] [.int l_.v.tu] 1 7
  refine z_pick (Γ' := [eMac E (c.a, c.la, c.lq, c.lm, (c.lns.set N (l_.a, l_.qa, l_.m, l_.zs, (l_.v.li, v, l_.v.st, l_.v.gd, l_.v.ck))), c.ca, c.cq, c.cm, c.crs, c.ba, c.bm, c.bk, c.sa, c.st, c.u), rs]) [0, 1] (ePm 2 rfl (by decide +kernel)) rfl ?_
  subst hQ_
  refine z_X ?_
  exact z_ret (Γ := [eMac E (c.a, c.la, c.lq, c.lm, (c.lns.set N (l_.a, l_.qa, l_.m, l_.zs, (l_.v.li, v, l_.v.st, l_.v.gd, l_.v.ck))), c.ca, c.cq, c.cm, c.crs, c.ba, c.bm, c.bk, c.sa, c.st, c.u)]) C dX1_turns_61 rfl rfl (Nat.le_of_ble_eq_true rfl) (Nat.le_of_ble_eq_true rfl) ⟨_, _, (c.a, c.la, c.lq, c.lm, (c.lns.set N (l_.a, l_.qa, l_.m, l_.zs, (l_.v.li, v, l_.v.st, l_.v.gd, l_.v.ck))), c.ca, c.cq, c.cm, c.crs, c.ba, c.bm, c.bk, c.sa, c.st, c.u), by rw [gTurns, gOne, if_pos hif, hgL], rfl, rfl, gSetL_N (l2 := (l_.a, l_.qa, l_.m, l_.zs, (l_.v.li, v, l_.v.st, l_.v.gd, l_.v.ck))) (by omega), rfl, rfl⟩

set_option maxHeartbeats 4000000 in
theorem m_cleans {l : Launch} (hl : l.stackTraces = false) (E : eEn) (c : Cm) (hok : gOk c.abs) (ln : Int32) : eMetX l E yX1_cleans (ws_ yX1_cleans cX1_cleans 3 (some .int)) ({ frames := 7, cells := 1, slots := 7, locals := 124 }) [.ref c.a, .int ln] [eMac E c] (fun w Γ => ∃ r A2 c2, gCleans c.abs ln = .inr (r, A2) ∧ w = some (.int r) ∧ Γ = [eMac E c2] ∧ c2.abs = A2 ∧ c2.a = c.a ∧ c2.bk = c.bk) (fun q En Γ => ∃ code, gCleans c.abs ln = .inl code ∧ En = RX6 ∧ ∃ r1 r2, Γ = [eRfB E q code r1 r2, eMac E c]) := by
  refine eStartX (cc := cX1_cleans) (nL := 3) (L := [some (.ref c.a), some (.int ln), none]) hl (by decide) rfl (List.forall_mem_cons.mpr ⟨rfl, (List.forall_mem_cons.mpr ⟨rfl, (fun _ h => absurd h List.not_mem_nil)⟩)⟩) (Nat.le_of_ble_eq_true rfl) ?_
  intro x rs C hT
  show eZ x E (eQX x E (fun w Γ => ∃ r A2 c2, gCleans c.abs ln = .inr (r, A2) ∧ w = some (.int r) ∧ Γ = [eMac E c2] ∧ c2.abs = A2 ∧ c2.a = c.a ∧ c2.bk = c.bk) (fun q En Γ => ∃ code, gCleans c.abs ln = .inl code ∧ En = RX6 ∧ ∃ r1 r2, Γ = [eRfB E q code r1 r2, eMac E c]) rs) [eMac E c, rs] 0 [some (.ref c.a), some (.int ln), none] [] 0 0
  generalize hQ_ : eQX x E (fun w Γ => ∃ r A2 c2, gCleans c.abs ln = .inr (r, A2) ∧ w = some (.int r) ∧ Γ = [eMac E c2] ∧ c2.abs = A2 ∧ c2.a = c.a ∧ c2.bk = c.bk) (fun q En Γ => ∃ code, gCleans c.abs ln = .inl code ∧ En = RX6 ∧ ∃ r1 r2, Γ = [eRfB E q code r1 r2, eMac E c]) rs = Q_
  obtain ⟨hk1, hk2, hk3, hk4, hk5, hk6⟩ := hok
  have hl4 : c.lns.length = 4 := by have h : (lV c.lns).length = 4 := hk1; rw [List.length_map] at h; exact h
  have hl8 : ∀ l ∈ c.lns, l.zs.length ≤ 8 := fun l hl => by have h : (qG l.zs).length ≤ 8 := hk2 _ (List.mem_map.mpr ⟨l, hl, rfl⟩); rw [List.length_map] at h; exact h
  have hc6 : c.crs.length = 6 := by have h : (c.crs.map Prod.snd).length = 6 := hk3; rw [List.length_map] at h; exact h
  have hb10 : c.bk.length ≤ 10 := by have h : (c.bk.map Prod.snd).length ≤ 10 := hk4; rw [List.length_map] at h; exact h
  have hla : (lA c.lns).length ≤ 10 := by rw [List.length_map]; omega
  have hka : (kA c.crs).length ≤ 10 := by rw [List.length_map]; omega
  refine z_iload_n C dX1_cleans_0 rfl rfl ?_
  refine z_callSN (As := [.int ln]) (rest := []) (Δ := [eMac E c, rs]) [] [0, 1] 1 (m_isLane hl E ln) C dX1_cleans_1 rfl rfl rfl q982 q983 q49 q984 (by decide +kernel) rfl (ePm 2 rfl (by decide +kernel)) rfl rfl ⟨Nat.le_of_ble_eq_true rfl, Nat.le_of_ble_eq_true rfl⟩ (Nat.le_trans eS0 (Nat.le_of_ble_eq_true rfl)) ⟨Nat.le_of_ble_eq_true rfl, Nat.le_of_ble_eq_true rfl⟩ (fun v_ Γ_ hp_ => ?_)
  obtain ⟨rfl, rfl⟩ := hp_
  show eZ x E _ [eMac E c, rs] 4 [some (.ref c.a), some (.int ln), none] [.int (eB (eBt ln 0 3))] 0 0
  refine z_ldcw C dX1_cleans_4 rfl q1000 ?_
  refine z_callSNX (As := [.int (eB (eBt ln 0 3)), .int (-1000001)]) (rest := []) (Δ := [eMac E c, rs]) [] [0, 1] 2 (m_need hl E (eBt ln 0 3) (-1000001)) C dX1_cleans_7 rfl rfl rfl q1001 q1002 q49 q1003 (by decide +kernel) rfl (ePm 2 rfl (by decide +kernel)) rfl rfl ⟨Nat.le_of_ble_eq_true rfl, Nat.le_of_ble_eq_true rfl⟩ (Nat.le_trans eS0 (Nat.le_of_ble_eq_true rfl)) ⟨Nat.le_of_ble_eq_true rfl, Nat.le_of_ble_eq_true rfl⟩ (fun q_ En_ Γ_ hx_ => ?_) (fun v_ Γ_ hp_ => ?_)
  · obtain ⟨hb, rfl, r1, r2, rfl⟩ := hx_
    show eY x E _ [eRfB E q_ (-1000001) r1 r2, eMac E c, rs] 7 [some (.ref c.a), some (.int ln), none] [] q_ 1 7
    subst hQ_
    exact z_out (Γ := [eRfB E q_ (-1000001) r1 r2, eMac E c]) C hT (by decide) (eIn (i := 0) rfl List.mem_cons_self) (show eCl[6]? = some _ from rfl) (Nat.le_of_ble_eq_true rfl) (Nat.le_of_ble_eq_true rfl) ⟨_, by rw [gCleans, gOne, if_neg (by rw [Bool.and_true, hb]; decide)], rfl, r1, r2, rfl⟩
  obtain ⟨hb, rfl, rfl⟩ := hp_
  show eZ x E _ [eMac E c, rs] 10 [some (.ref c.a), some (.int ln), none] [] 1 7
  obtain ⟨N, hN, rfl⟩ := eBt_N (hb)
  have hN4 : N < 4 := Nat.lt_succ_of_le hN
  obtain ⟨l_, hln⟩ : ∃ l_, c.lns[N]? = some l_ := ⟨_, List.getElem?_eq_getElem (by omega)⟩
  have hat : (lA c.lns)[N]? = some l_.a := by rw [List.getElem?_map, hln]; rfl
  have hgL : gL c.abs (nI N) = (l_.v, qG l_.zs) := gL_N (by omega) hln
  have hz8 : l_.zs.length ≤ 8 := hl8 l_ (List.mem_of_getElem? hln)
  have hif : (eBt (nI N) 0 3 && true) = true := by rw [Bool.and_true]; exact hb
  refine z_cut 0 (bs := [eO c.a 1 [.ref c.la, .ref c.ca, .ref c.ba, .ref c.sa, .int c.u.tk, .int c.u.cm, .int c.u.dk, .int c.u.co, .int c.u.wt, .int c.u.lk], eAL E c.la c.lq c.lm (lA c.lns), eLans 0 c.lns, eAL E c.ca c.cq c.cm (kA c.crs), eCrs c.crs, eLL c.ba c.bm (bX c.bk), eIA E c.sa 4 c.st]) rfl eMac_cut rfl ?_
  show eZ x E _ [eO c.a 1 [.ref c.la, .ref c.ca, .ref c.ba, .ref c.sa, .int c.u.tk, .int c.u.cm, .int c.u.dk, .int c.u.co, .int c.u.wt, .int c.u.lk], eAL E c.la c.lq c.lm (lA c.lns), eLans 0 c.lns, eAL E c.ca c.cq c.cm (kA c.crs), eCrs c.crs, eLL c.ba c.bm (bX c.bk), eIA E c.sa 4 c.st, rs] 10 [some (.ref c.a), some (.int (nI N)), none] [] 1 7
  refine z_cut 2 (bs := [eLans 0 (c.lns.take N), eO l_.a 2 [.int (nI N), .ref l_.qa, .int l_.v.li, .int l_.v.tu, .int l_.v.st, .int l_.v.gd, .int l_.v.ck], eLL l_.qa l_.m (qX l_.zs), qE l_.zs, eLans (N + 1) (c.lns.drop (N + 1))]) rfl (by rw [eLans_at hln, eLan_cut]; simp) rfl ?_
  show eZ x E _ [eO c.a 1 [.ref c.la, .ref c.ca, .ref c.ba, .ref c.sa, .int c.u.tk, .int c.u.cm, .int c.u.dk, .int c.u.co, .int c.u.wt, .int c.u.lk], eAL E c.la c.lq c.lm (lA c.lns), eLans 0 (c.lns.take N), eO l_.a 2 [.int (nI N), .ref l_.qa, .int l_.v.li, .int l_.v.tu, .int l_.v.st, .int l_.v.gd, .int l_.v.ck], eLL l_.qa l_.m (qX l_.zs), qE l_.zs, eLans (N + 1) (c.lns.drop (N + 1)), eAL E c.ca c.cq c.cm (kA c.crs), eCrs c.crs, eLL c.ba c.bm (bX c.bk), eIA E c.sa 4 c.st, rs] 10 [some (.ref c.a), some (.int (nI N)), none] [] 1 7
  refine z_aload_n C dX1_cleans_10 rfl rfl ?_
  refine z_get eK1 0 0 C dX1_cleans_11 rfl rfl q307 (eSame1 rfl) (by decide) rfl ?_
  refine z_iload_n C dX1_cleans_14 rfl rfl ?_
  refine z_callV (r := (RJ2, TJ2, 3)) (As := [.int (nI N)]) (rest := []) (Δ := [eO c.a 1 [.ref c.la, .ref c.ca, .ref c.ba, .ref c.sa, .int c.u.tk, .int c.u.cm, .int c.u.dk, .int c.u.co, .int c.u.wt, .int c.u.lk], eLans 0 (c.lns.take N), eO l_.a 2 [.int (nI N), .ref l_.qa, .int l_.v.li, .int l_.v.tu, .int l_.v.st, .int l_.v.gd, .int l_.v.ck], eLL l_.qa l_.m (qX l_.zs), qE l_.zs, eLans (N + 1) (c.lns.drop (N + 1)), eAL E c.ca c.cq c.cm (kA c.crs), eCrs c.crs, eLL c.ba c.bm (bX c.bk), eIA E c.sa 4 c.st, rs]) [1] [0, 2, 3, 4, 5, 6, 7, 8, 9, 10, 11] 1 (m_AL_get hl E c.la c.lq c.lm (lA c.lns) hla N l_.a hat) C dX1_cleans_15 rfl rfl (eIn (i := 1) rfl eAL_mem) rfl rfl q1029 q506 q1944 q53 q507 (by decide +kernel) rfl (ePm 12 rfl (by decide +kernel)) rfl rfl ⟨Nat.le_of_ble_eq_true rfl, Nat.le_of_ble_eq_true rfl⟩ (Nat.le_trans eS0 (Nat.le_of_ble_eq_true rfl)) ⟨Nat.le_of_ble_eq_true rfl, Nat.le_of_ble_eq_true rfl⟩ (fun v_ Γ_ hp_ => ?_)
  obtain ⟨rfl, rfl⟩ := hp_
  show eZ x E _ [eAL E c.la c.lq c.lm (lA c.lns), eO c.a 1 [.ref c.la, .ref c.ca, .ref c.ba, .ref c.sa, .int c.u.tk, .int c.u.cm, .int c.u.dk, .int c.u.co, .int c.u.wt, .int c.u.lk], eLans 0 (c.lns.take N), eO l_.a 2 [.int (nI N), .ref l_.qa, .int l_.v.li, .int l_.v.tu, .int l_.v.st, .int l_.v.gd, .int l_.v.ck], eLL l_.qa l_.m (qX l_.zs), qE l_.zs, eLans (N + 1) (c.lns.drop (N + 1)), eAL E c.ca c.cq c.cm (kA c.crs), eCrs c.crs, eLL c.ba c.bm (bX c.bk), eIA E c.sa 4 c.st, rs] 18 [some (.ref c.a), some (.int (nI N)), none] [.ref l_.a] 1 7
  refine z_castE C dX1_cleans_18 (eIn (i := 3) rfl List.mem_cons_self) (show eCl[2]? = some _ from rfl) rfl q162 ?_
  refine z_getN eK2 3 4 C dX1_cleans_21 rfl rfl q182 (eSame1 rfl) (by decide) rfl ?_
  refine z_istore_n (L2 := [some (.ref c.a), some (.int (nI N)), some (.int l_.v.st)]) C dX1_cleans_24 rfl (Nat.le_of_ble_eq_true rfl) rfl ?_
  refine z_aload_n C dX1_cleans_25 rfl rfl ?_
  refine z_get eK1 1 0 C dX1_cleans_26 rfl rfl q307 (eSame1 rfl) (by decide) rfl ?_
  refine z_iload_n C dX1_cleans_29 rfl rfl ?_
  refine z_callV (r := (RJ2, TJ2, 3)) (As := [.int (nI N)]) (rest := []) (Δ := [eO c.a 1 [.ref c.la, .ref c.ca, .ref c.ba, .ref c.sa, .int c.u.tk, .int c.u.cm, .int c.u.dk, .int c.u.co, .int c.u.wt, .int c.u.lk], eLans 0 (c.lns.take N), eO l_.a 2 [.int (nI N), .ref l_.qa, .int l_.v.li, .int l_.v.tu, .int l_.v.st, .int l_.v.gd, .int l_.v.ck], eLL l_.qa l_.m (qX l_.zs), qE l_.zs, eLans (N + 1) (c.lns.drop (N + 1)), eAL E c.ca c.cq c.cm (kA c.crs), eCrs c.crs, eLL c.ba c.bm (bX c.bk), eIA E c.sa 4 c.st, rs]) [0] [1, 2, 3, 4, 5, 6, 7, 8, 9, 10, 11] 1 (m_AL_get hl E c.la c.lq c.lm (lA c.lns) hla N l_.a hat) C dX1_cleans_30 rfl rfl (eIn (i := 0) rfl eAL_mem) rfl rfl q1029 q506 q1944 q53 q507 (by decide +kernel) rfl (ePm 12 rfl (by decide +kernel)) rfl rfl ⟨Nat.le_of_ble_eq_true rfl, Nat.le_of_ble_eq_true rfl⟩ (Nat.le_trans eS0 (Nat.le_of_ble_eq_true rfl)) ⟨Nat.le_of_ble_eq_true rfl, Nat.le_of_ble_eq_true rfl⟩ (fun v_ Γ_ hp_ => ?_)
  obtain ⟨rfl, rfl⟩ := hp_
  show eZ x E _ [eAL E c.la c.lq c.lm (lA c.lns), eO c.a 1 [.ref c.la, .ref c.ca, .ref c.ba, .ref c.sa, .int c.u.tk, .int c.u.cm, .int c.u.dk, .int c.u.co, .int c.u.wt, .int c.u.lk], eLans 0 (c.lns.take N), eO l_.a 2 [.int (nI N), .ref l_.qa, .int l_.v.li, .int l_.v.tu, .int l_.v.st, .int l_.v.gd, .int l_.v.ck], eLL l_.qa l_.m (qX l_.zs), qE l_.zs, eLans (N + 1) (c.lns.drop (N + 1)), eAL E c.ca c.cq c.cm (kA c.crs), eCrs c.crs, eLL c.ba c.bm (bX c.bk), eIA E c.sa 4 c.st, rs] 33 [some (.ref c.a), some (.int (nI N)), some (.int l_.v.st)] [.ref l_.a] 1 7
  refine z_castE C dX1_cleans_33 (eIn (i := 3) rfl List.mem_cons_self) (show eCl[2]? = some _ from rfl) rfl q162 ?_
  refine z_iconst (v := 0) C dX1_cleans_36 (by decide) ?_
  refine z_putN eK2 3 4 (Γ2 := [eAL E c.la c.lq c.lm (lA c.lns), eO c.a 1 [.ref c.la, .ref c.ca, .ref c.ba, .ref c.sa, .int c.u.tk, .int c.u.cm, .int c.u.dk, .int c.u.co, .int c.u.wt, .int c.u.lk], eLans 0 (c.lns.take N), eO l_.a 2 [.int (nI N), .ref l_.qa, .int l_.v.li, .int l_.v.tu, .int 0, .int l_.v.gd, .int l_.v.ck], eLL l_.qa l_.m (qX l_.zs), qE l_.zs, eLans (N + 1) (c.lns.drop (N + 1)), eAL E c.ca c.cq c.cm (kA c.crs), eCrs c.crs, eLL c.ba c.bm (bX c.bk), eIA E c.sa 4 c.st, rs]) C dX1_cleans_37 rfl rfl q182 (eSame1 rfl) (by decide) rfl rfl rfl rfl (Nat.le_of_ble_eq_true rfl) rfl ?_
  refine z_iload_n C dX1_cleans_40 rfl rfl ?_
  have hla2 : lA (c.lns.set N (l_.a, l_.qa, l_.m, l_.zs, (l_.v.li, l_.v.tu, 0, l_.v.gd, l_.v.ck))) = lA c.lns := lA_set hln rfl
  refine z_pick (Γ' := [eLans 0 (c.lns.take N), eO l_.a 2 [.int (nI N), .ref l_.qa, .int l_.v.li, .int l_.v.tu, .int 0, .int l_.v.gd, .int l_.v.ck], eLL l_.qa l_.m (qX l_.zs), qE l_.zs, eLans (N + 1) (c.lns.drop (N + 1)), eAL E c.la c.lq c.lm (lA c.lns), eO c.a 1 [.ref c.la, .ref c.ca, .ref c.ba, .ref c.sa, .int c.u.tk, .int c.u.cm, .int c.u.dk, .int c.u.co, .int c.u.wt, .int c.u.lk], eAL E c.ca c.cq c.cm (kA c.crs), eCrs c.crs, eLL c.ba c.bm (bX c.bk), eIA E c.sa 4 c.st, rs]) [2, 3, 4, 5, 6, 0, 1, 7, 8, 9, 10, 11] (ePm 12 rfl (by decide +kernel)) rfl ?_
  refine z_join 5 (b := eLans 0 (c.lns.set N (l_.a, l_.qa, l_.m, l_.zs, (l_.v.li, l_.v.tu, 0, l_.v.gd, l_.v.ck)))) (by rw [eLans_set (by omega), eLan_cut]; simp only [List.take, List.flatten_cons, List.flatten_nil, List.append_nil, List.append_assoc]; try rfl) rfl ?_
  show eZ x E _ [eLans 0 (c.lns.set N (l_.a, l_.qa, l_.m, l_.zs, (l_.v.li, l_.v.tu, 0, l_.v.gd, l_.v.ck))), eAL E c.la c.lq c.lm (lA c.lns), eO c.a 1 [.ref c.la, .ref c.ca, .ref c.ba, .ref c.sa, .int c.u.tk, .int c.u.cm, .int c.u.dk, .int c.u.co, .int c.u.wt, .int c.u.lk], eAL E c.ca c.cq c.cm (kA c.crs), eCrs c.crs, eLL c.ba c.bm (bX c.bk), eIA E c.sa 4 c.st, rs] 41 [some (.ref c.a), some (.int (nI N)), some (.int l_.v.st)] [.int l_.v.st] 1 7
  refine z_pick (Γ' := [eO c.a 1 [.ref c.la, .ref c.ca, .ref c.ba, .ref c.sa, .int c.u.tk, .int c.u.cm, .int c.u.dk, .int c.u.co, .int c.u.wt, .int c.u.lk], eAL E c.la c.lq c.lm (lA c.lns), eLans 0 (c.lns.set N (l_.a, l_.qa, l_.m, l_.zs, (l_.v.li, l_.v.tu, 0, l_.v.gd, l_.v.ck))), eAL E c.ca c.cq c.cm (kA c.crs), eCrs c.crs, eLL c.ba c.bm (bX c.bk), eIA E c.sa 4 c.st, rs]) [2, 1, 0, 3, 4, 5, 6, 7] (ePm 8 rfl (by decide +kernel)) rfl ?_
  refine z_join 7 (b := eMac E (c.a, c.la, c.lq, c.lm, (c.lns.set N (l_.a, l_.qa, l_.m, l_.zs, (l_.v.li, l_.v.tu, 0, l_.v.gd, l_.v.ck))), c.ca, c.cq, c.cm, c.crs, c.ba, c.bm, c.bk, c.sa, c.st, c.u)) (by rw [eMac_cut]; simp only [List.take]; rw [← hla2]; try rfl) rfl ?_
  show eZ x E _ [eMac E (c.a, c.la, c.lq, c.lm, (c.lns.set N (l_.a, l_.qa, l_.m, l_.zs, (l_.v.li, l_.v.tu, 0, l_.v.gd, l_.v.ck))), c.ca, c.cq, c.cm, c.crs, c.ba, c.bm, c.bk, c.sa, c.st, c.u), rs] 41 [some (.ref c.a), some (.int (nI N)), some (.int l_.v.st)] [.int l_.v.st] 1 7
  refine z_pick (Γ' := [eMac E (c.a, c.la, c.lq, c.lm, (c.lns.set N (l_.a, l_.qa, l_.m, l_.zs, (l_.v.li, l_.v.tu, 0, l_.v.gd, l_.v.ck))), c.ca, c.cq, c.cm, c.crs, c.ba, c.bm, c.bk, c.sa, c.st, c.u), rs]) [0, 1] (ePm 2 rfl (by decide +kernel)) rfl ?_
  subst hQ_
  refine z_X ?_
  exact z_ret (Γ := [eMac E (c.a, c.la, c.lq, c.lm, (c.lns.set N (l_.a, l_.qa, l_.m, l_.zs, (l_.v.li, l_.v.tu, 0, l_.v.gd, l_.v.ck))), c.ca, c.cq, c.cm, c.crs, c.ba, c.bm, c.bk, c.sa, c.st, c.u)]) C dX1_cleans_41 rfl rfl (Nat.le_of_ble_eq_true rfl) (Nat.le_of_ble_eq_true rfl) ⟨_, _, (c.a, c.la, c.lq, c.lm, (c.lns.set N (l_.a, l_.qa, l_.m, l_.zs, (l_.v.li, l_.v.tu, 0, l_.v.gd, l_.v.ck))), c.ca, c.cq, c.cm, c.crs, c.ba, c.bm, c.bk, c.sa, c.st, c.u), by rw [gCleans, gOne, if_pos hif, hgL], rfl, rfl, gSetL_N (l2 := (l_.a, l_.qa, l_.m, l_.zs, (l_.v.li, l_.v.tu, 0, l_.v.gd, l_.v.ck))) (by omega), rfl, rfl⟩

set_option maxHeartbeats 4000000 in
theorem m_puts {l : Launch} (hl : l.stackTraces = false) (E : eEn) (c : Cm) (hok : gOk c.abs) (ln : Int32) (j : Nat) (g : Eg) : eMetX l E yX1_puts (ws_ yX1_puts cX1_puts 4 (some .int)) ({ frames := 7, cells := 3, slots := 17, locals := 124 }) [.ref c.a, .int ln, .ref j] [eMac E c, eO j 5 [.int g.w, .int g.sh, .int g.y, .int g.c, .int g.sp, .int g.t]] (fun w Γ => ∃ r A2 c2, gPuts c.abs ln g = .inr (r, A2) ∧ w = some (.int r) ∧ Γ = [eMac E c2] ∧ c2.abs = A2 ∧ c2.a = c.a ∧ c2.bk = c.bk) (fun q En Γ => ∃ code, gPuts c.abs ln g = .inl code ∧ En = RX6 ∧ ∃ r1 r2, Γ = [eRfB E q code r1 r2, eMac E c, eEg j g]) := by
  refine eStartX (cc := cX1_puts) (nL := 4) (L := [some (.ref c.a), some (.int ln), some (.ref j), none]) hl (by decide) rfl (List.forall_mem_cons.mpr ⟨rfl, (List.forall_mem_cons.mpr ⟨rfl, (List.forall_mem_cons.mpr ⟨rfl, (fun _ h => absurd h List.not_mem_nil)⟩)⟩)⟩) (Nat.le_of_ble_eq_true rfl) ?_
  intro x rs C hT
  show eZ x E (eQX x E (fun w Γ => ∃ r A2 c2, gPuts c.abs ln g = .inr (r, A2) ∧ w = some (.int r) ∧ Γ = [eMac E c2] ∧ c2.abs = A2 ∧ c2.a = c.a ∧ c2.bk = c.bk) (fun q En Γ => ∃ code, gPuts c.abs ln g = .inl code ∧ En = RX6 ∧ ∃ r1 r2, Γ = [eRfB E q code r1 r2, eMac E c, eEg j g]) rs) [eMac E c, eO j 5 [.int g.w, .int g.sh, .int g.y, .int g.c, .int g.sp, .int g.t], rs] 0 [some (.ref c.a), some (.int ln), some (.ref j), none] [] 0 0
  generalize hQ_ : eQX x E (fun w Γ => ∃ r A2 c2, gPuts c.abs ln g = .inr (r, A2) ∧ w = some (.int r) ∧ Γ = [eMac E c2] ∧ c2.abs = A2 ∧ c2.a = c.a ∧ c2.bk = c.bk) (fun q En Γ => ∃ code, gPuts c.abs ln g = .inl code ∧ En = RX6 ∧ ∃ r1 r2, Γ = [eRfB E q code r1 r2, eMac E c, eEg j g]) rs = Q_
  obtain ⟨hk1, hk2, hk3, hk4, hk5, hk6⟩ := hok
  have hl4 : c.lns.length = 4 := by have h : (lV c.lns).length = 4 := hk1; rw [List.length_map] at h; exact h
  have hl8 : ∀ l ∈ c.lns, l.zs.length ≤ 8 := fun l hl => by have h : (qG l.zs).length ≤ 8 := hk2 _ (List.mem_map.mpr ⟨l, hl, rfl⟩); rw [List.length_map] at h; exact h
  have hc6 : c.crs.length = 6 := by have h : (c.crs.map Prod.snd).length = 6 := hk3; rw [List.length_map] at h; exact h
  have hb10 : c.bk.length ≤ 10 := by have h : (c.bk.map Prod.snd).length ≤ 10 := hk4; rw [List.length_map] at h; exact h
  have hla : (lA c.lns).length ≤ 10 := by rw [List.length_map]; omega
  have hka : (kA c.crs).length ≤ 10 := by rw [List.length_map]; omega
  suffices J_ : eZ x E Q_ [eMac E c, eO j 5 [.int g.w, .int g.sh, .int g.y, .int g.c, .int g.sp, .int g.t], rs] 86 [some (.ref c.a), some (.int ln), some (.ref j), none] [.int (eB (eBt ln 0 3 && (eBt g.w 30 90 && (eBt g.sh 0 99 && (eBt g.sp 0 255 && (eBt g.y 1 2 && eBt g.c (-1) 7))))))] 0 0 by
    refine z_iload_n C dX1_puts_0 rfl rfl ?_
    refine z_callSN (As := [.int ln]) (rest := []) (Δ := [eMac E c, eO j 5 [.int g.w, .int g.sh, .int g.y, .int g.c, .int g.sp, .int g.t], rs]) [] [0, 1, 2] 1 (m_isLane hl E ln) C dX1_puts_1 rfl rfl rfl q982 q983 q49 q984 (by decide +kernel) rfl (ePm 3 rfl (by decide +kernel)) rfl rfl ⟨Nat.le_of_ble_eq_true rfl, Nat.le_of_ble_eq_true rfl⟩ (Nat.le_trans eS0 (Nat.le_of_ble_eq_true rfl)) ⟨Nat.le_of_ble_eq_true rfl, Nat.le_of_ble_eq_true rfl⟩ (fun v_ Γ_ hp_ => ?_)
    obtain ⟨rfl, rfl⟩ := hp_
    show eZ x E _ [eMac E c, eO j 5 [.int g.w, .int g.sh, .int g.y, .int g.c, .int g.sp, .int g.t], rs] 4 [some (.ref c.a), some (.int ln), some (.ref j), none] [.int (eB (eBt ln 0 3))] 0 0
    refine z_if_eq_B 85 C dX1_puts_4 (by decide) (fun hc0 => ?_) (fun hc0 => ?_)
    · refine z_iconst (v := 0) C dX1_puts_85 (by decide) ?_
      refine z_is (w := eB (eBt ln 0 3 && (eBt g.w 30 90 && (eBt g.sh 0 99 && (eBt g.sp 0 255 && (eBt g.y 1 2 && eBt g.c (-1) 7)))))) (by rw [show (eBt ln 0 3 && (eBt g.w 30 90 && (eBt g.sh 0 99 && (eBt g.sp 0 255 && (eBt g.y 1 2 && eBt g.c (-1) 7))))) = false from by simp [hc0]]; rfl) ?_
      exact J_
    · refine z_aload_n C dX1_puts_7 rfl rfl ?_
      refine z_getN eK5 1 0 C dX1_puts_8 rfl rfl q908 (eSame1 rfl) (by decide) rfl ?_
      refine z_i2l (v := g.w.toInt64) C dX1_puts_11 rfl ?_
      refine z_ldc2 C dX1_puts_12 rfl q989 ?_
      refine z_ldc2 C dX1_puts_15 rfl q990 ?_
      refine z_callSN (As := [.long g.w.toInt64, .long 30, .long 90]) (rest := []) (Δ := [eMac E c, eO j 5 [.int g.w, .int g.sh, .int g.y, .int g.c, .int g.sp, .int g.t], rs]) [] [0, 1, 2] 3 (m_bt hl E g.w 30 90 30 90 (by decide) (by decide)) C dX1_puts_18 rfl rfl rfl q991 q987 q49 q988 (by decide +kernel) rfl (ePm 3 rfl (by decide +kernel)) rfl rfl ⟨Nat.le_of_ble_eq_true rfl, Nat.le_of_ble_eq_true rfl⟩ (Nat.le_trans eS0 (Nat.le_of_ble_eq_true rfl)) ⟨Nat.le_of_ble_eq_true rfl, Nat.le_of_ble_eq_true rfl⟩ (fun v_ Γ_ hp_ => ?_)
      obtain ⟨rfl, rfl⟩ := hp_
      show eZ x E _ [eMac E c, eO j 5 [.int g.w, .int g.sh, .int g.y, .int g.c, .int g.sp, .int g.t], rs] 21 [some (.ref c.a), some (.int ln), some (.ref j), none] [.int (eB (eBt g.w 30 90))] 0 0
      refine z_if_eq_B 85 C dX1_puts_21 (by decide) (fun hc1 => ?_) (fun hc1 => ?_)
      · refine z_iconst (v := 0) C dX1_puts_85 (by decide) ?_
        refine z_is (w := eB (eBt ln 0 3 && (eBt g.w 30 90 && (eBt g.sh 0 99 && (eBt g.sp 0 255 && (eBt g.y 1 2 && eBt g.c (-1) 7)))))) (by rw [show (eBt ln 0 3 && (eBt g.w 30 90 && (eBt g.sh 0 99 && (eBt g.sp 0 255 && (eBt g.y 1 2 && eBt g.c (-1) 7))))) = false from by simp [hc0, hc1]]; rfl) ?_
        exact J_
      · refine z_aload_n C dX1_puts_24 rfl rfl ?_
        refine z_getN eK5 1 1 C dX1_puts_25 rfl rfl q911 (eSame1 rfl) (by decide) rfl ?_
        refine z_i2l (v := g.sh.toInt64) C dX1_puts_28 rfl ?_
        refine z_lconst (v := 0) C dX1_puts_29 (by decide) ?_
        refine z_ldc2 C dX1_puts_30 rfl q992 ?_
        refine z_callSN (As := [.long g.sh.toInt64, .long 0, .long 99]) (rest := []) (Δ := [eMac E c, eO j 5 [.int g.w, .int g.sh, .int g.y, .int g.c, .int g.sp, .int g.t], rs]) [] [0, 1, 2] 3 (m_bt hl E g.sh 0 99 0 99 (by decide) (by decide)) C dX1_puts_33 rfl rfl rfl q991 q987 q49 q988 (by decide +kernel) rfl (ePm 3 rfl (by decide +kernel)) rfl rfl ⟨Nat.le_of_ble_eq_true rfl, Nat.le_of_ble_eq_true rfl⟩ (Nat.le_trans eS0 (Nat.le_of_ble_eq_true rfl)) ⟨Nat.le_of_ble_eq_true rfl, Nat.le_of_ble_eq_true rfl⟩ (fun v_ Γ_ hp_ => ?_)
        obtain ⟨rfl, rfl⟩ := hp_
        show eZ x E _ [eMac E c, eO j 5 [.int g.w, .int g.sh, .int g.y, .int g.c, .int g.sp, .int g.t], rs] 36 [some (.ref c.a), some (.int ln), some (.ref j), none] [.int (eB (eBt g.sh 0 99))] 0 0
        refine z_if_eq_B 85 C dX1_puts_36 (by decide) (fun hc2 => ?_) (fun hc2 => ?_)
        · refine z_iconst (v := 0) C dX1_puts_85 (by decide) ?_
          refine z_is (w := eB (eBt ln 0 3 && (eBt g.w 30 90 && (eBt g.sh 0 99 && (eBt g.sp 0 255 && (eBt g.y 1 2 && eBt g.c (-1) 7)))))) (by rw [show (eBt ln 0 3 && (eBt g.w 30 90 && (eBt g.sh 0 99 && (eBt g.sp 0 255 && (eBt g.y 1 2 && eBt g.c (-1) 7))))) = false from by simp [hc0, hc1, hc2]]; rfl) ?_
          exact J_
        · refine z_aload_n C dX1_puts_39 rfl rfl ?_
          refine z_getN eK5 1 4 C dX1_puts_40 rfl rfl q920 (eSame1 rfl) (by decide) rfl ?_
          refine z_callSN (As := [.int g.sp]) (rest := []) (Δ := [eMac E c, eO j 5 [.int g.w, .int g.sh, .int g.y, .int g.c, .int g.sp, .int g.t], rs]) [] [0, 1, 2] 1 (m_isSpots hl E g.sp) C dX1_puts_43 rfl rfl rfl q993 q994 q49 q995 (by decide +kernel) rfl (ePm 3 rfl (by decide +kernel)) rfl rfl ⟨Nat.le_of_ble_eq_true rfl, Nat.le_of_ble_eq_true rfl⟩ (Nat.le_trans eS0 (Nat.le_of_ble_eq_true rfl)) ⟨Nat.le_of_ble_eq_true rfl, Nat.le_of_ble_eq_true rfl⟩ (fun v_ Γ_ hp_ => ?_)
          obtain ⟨rfl, rfl⟩ := hp_
          show eZ x E _ [eMac E c, eO j 5 [.int g.w, .int g.sh, .int g.y, .int g.c, .int g.sp, .int g.t], rs] 46 [some (.ref c.a), some (.int ln), some (.ref j), none] [.int (eB (eBt g.sp 0 255))] 0 0
          refine z_if_eq_B 85 C dX1_puts_46 (by decide) (fun hc3 => ?_) (fun hc3 => ?_)
          · refine z_iconst (v := 0) C dX1_puts_85 (by decide) ?_
            refine z_is (w := eB (eBt ln 0 3 && (eBt g.w 30 90 && (eBt g.sh 0 99 && (eBt g.sp 0 255 && (eBt g.y 1 2 && eBt g.c (-1) 7)))))) (by rw [show (eBt ln 0 3 && (eBt g.w 30 90 && (eBt g.sh 0 99 && (eBt g.sp 0 255 && (eBt g.y 1 2 && eBt g.c (-1) 7))))) = false from by simp [hc0, hc1, hc2, hc3]]; rfl) ?_
            exact J_
          · refine z_aload_n C dX1_puts_49 rfl rfl ?_
            refine z_getN eK5 1 2 C dX1_puts_50 rfl rfl q914 (eSame1 rfl) (by decide) rfl ?_
            refine z_i2l (v := g.y.toInt64) C dX1_puts_53 rfl ?_
            refine z_lconst (v := 1) C dX1_puts_54 (by decide) ?_
            refine z_ldc2 C dX1_puts_55 rfl q997 ?_
            refine z_callSN (As := [.long g.y.toInt64, .long 1, .long 2]) (rest := []) (Δ := [eMac E c, eO j 5 [.int g.w, .int g.sh, .int g.y, .int g.c, .int g.sp, .int g.t], rs]) [] [0, 1, 2] 3 (m_bt hl E g.y 1 2 1 2 (by decide) (by decide)) C dX1_puts_58 rfl rfl rfl q991 q987 q49 q988 (by decide +kernel) rfl (ePm 3 rfl (by decide +kernel)) rfl rfl ⟨Nat.le_of_ble_eq_true rfl, Nat.le_of_ble_eq_true rfl⟩ (Nat.le_trans eS0 (Nat.le_of_ble_eq_true rfl)) ⟨Nat.le_of_ble_eq_true rfl, Nat.le_of_ble_eq_true rfl⟩ (fun v_ Γ_ hp_ => ?_)
            obtain ⟨rfl, rfl⟩ := hp_
            show eZ x E _ [eMac E c, eO j 5 [.int g.w, .int g.sh, .int g.y, .int g.c, .int g.sp, .int g.t], rs] 61 [some (.ref c.a), some (.int ln), some (.ref j), none] [.int (eB (eBt g.y 1 2))] 0 0
            refine z_if_eq_B 85 C dX1_puts_61 (by decide) (fun hc4 => ?_) (fun hc4 => ?_)
            · refine z_iconst (v := 0) C dX1_puts_85 (by decide) ?_
              refine z_is (w := eB (eBt ln 0 3 && (eBt g.w 30 90 && (eBt g.sh 0 99 && (eBt g.sp 0 255 && (eBt g.y 1 2 && eBt g.c (-1) 7)))))) (by rw [show (eBt ln 0 3 && (eBt g.w 30 90 && (eBt g.sh 0 99 && (eBt g.sp 0 255 && (eBt g.y 1 2 && eBt g.c (-1) 7))))) = false from by simp [hc0, hc1, hc2, hc3, hc4]]; rfl) ?_
              exact J_
            · refine z_aload_n C dX1_puts_64 rfl rfl ?_
              refine z_getN eK5 1 3 C dX1_puts_65 rfl rfl q917 (eSame1 rfl) (by decide) rfl ?_
              refine z_i2l (v := g.c.toInt64) C dX1_puts_68 rfl ?_
              refine z_ldc2 C dX1_puts_69 rfl q998 ?_
              refine z_ldc2 C dX1_puts_72 rfl q999 ?_
              refine z_callSN (As := [.long g.c.toInt64, .long (-1), .long 7]) (rest := []) (Δ := [eMac E c, eO j 5 [.int g.w, .int g.sh, .int g.y, .int g.c, .int g.sp, .int g.t], rs]) [] [0, 1, 2] 3 (m_bt hl E g.c (-1) 7 (-1) 7 (by decide) (by decide)) C dX1_puts_75 rfl rfl rfl q991 q987 q49 q988 (by decide +kernel) rfl (ePm 3 rfl (by decide +kernel)) rfl rfl ⟨Nat.le_of_ble_eq_true rfl, Nat.le_of_ble_eq_true rfl⟩ (Nat.le_trans eS0 (Nat.le_of_ble_eq_true rfl)) ⟨Nat.le_of_ble_eq_true rfl, Nat.le_of_ble_eq_true rfl⟩ (fun v_ Γ_ hp_ => ?_)
              obtain ⟨rfl, rfl⟩ := hp_
              show eZ x E _ [eMac E c, eO j 5 [.int g.w, .int g.sh, .int g.y, .int g.c, .int g.sp, .int g.t], rs] 78 [some (.ref c.a), some (.int ln), some (.ref j), none] [.int (eB (eBt g.c (-1) 7))] 0 0
              refine z_if_eq_B 85 C dX1_puts_78 (by decide) (fun hc5 => ?_) (fun hc5 => ?_)
              · refine z_iconst (v := 0) C dX1_puts_85 (by decide) ?_
                refine z_is (w := eB (eBt ln 0 3 && (eBt g.w 30 90 && (eBt g.sh 0 99 && (eBt g.sp 0 255 && (eBt g.y 1 2 && eBt g.c (-1) 7)))))) (by rw [show (eBt ln 0 3 && (eBt g.w 30 90 && (eBt g.sh 0 99 && (eBt g.sp 0 255 && (eBt g.y 1 2 && eBt g.c (-1) 7))))) = false from by simp [hc0, hc1, hc2, hc3, hc4, hc5]]; rfl) ?_
                exact J_
              · refine z_iconst (v := 1) C dX1_puts_81 (by decide) ?_
                refine z_goto 86 C dX1_puts_82 (by decide) ?_
                refine z_is (w := eB (eBt ln 0 3 && (eBt g.w 30 90 && (eBt g.sh 0 99 && (eBt g.sp 0 255 && (eBt g.y 1 2 && eBt g.c (-1) 7)))))) (by rw [show (eBt ln 0 3 && (eBt g.w 30 90 && (eBt g.sh 0 99 && (eBt g.sp 0 255 && (eBt g.y 1 2 && eBt g.c (-1) 7))))) = true from by simp [hc0, hc1, hc2, hc3, hc4, hc5]]; rfl) ?_
                exact J_
  refine z_ldcw C dX1_puts_86 rfl q1000 ?_
  refine z_callSNX (As := [.int (eB (eBt ln 0 3 && (eBt g.w 30 90 && (eBt g.sh 0 99 && (eBt g.sp 0 255 && (eBt g.y 1 2 && eBt g.c (-1) 7)))))), .int (-1000001)]) (rest := []) (Δ := [eMac E c, eO j 5 [.int g.w, .int g.sh, .int g.y, .int g.c, .int g.sp, .int g.t], rs]) [] [0, 1, 2] 2 (m_need hl E (eBt ln 0 3 && (eBt g.w 30 90 && (eBt g.sh 0 99 && (eBt g.sp 0 255 && (eBt g.y 1 2 && eBt g.c (-1) 7))))) (-1000001)) C dX1_puts_89 rfl rfl rfl q1001 q1002 q49 q1003 (by decide +kernel) rfl (ePm 3 rfl (by decide +kernel)) rfl rfl ⟨Nat.le_of_ble_eq_true rfl, Nat.le_of_ble_eq_true rfl⟩ (Nat.le_trans eS0 (Nat.le_of_ble_eq_true rfl)) ⟨Nat.le_of_ble_eq_true rfl, Nat.le_of_ble_eq_true rfl⟩ (fun q_ En_ Γ_ hx_ => ?_) (fun v_ Γ_ hp_ => ?_)
  · obtain ⟨hb, rfl, r1, r2, rfl⟩ := hx_
    show eY x E _ [eRfB E q_ (-1000001) r1 r2, eMac E c, eO j 5 [.int g.w, .int g.sh, .int g.y, .int g.c, .int g.sp, .int g.t], rs] 89 [some (.ref c.a), some (.int ln), some (.ref j), none] [] q_ 1 7
    refine y_pick (Γ' := [eRfB E q_ (-1000001) r1 r2, eMac E c, eO j 5 [.int g.w, .int g.sh, .int g.y, .int g.c, .int g.sp, .int g.t], rs]) [0, 1, 2, 3] (ePm 4 rfl (by decide +kernel)) rfl ?_
    subst hQ_
    exact z_out (Γ := [eRfB E q_ (-1000001) r1 r2, eMac E c, eO j 5 [.int g.w, .int g.sh, .int g.y, .int g.c, .int g.sp, .int g.t]]) C hT (by decide) (eIn (i := 0) rfl List.mem_cons_self) (show eCl[6]? = some _ from rfl) (Nat.le_of_ble_eq_true rfl) (Nat.le_of_ble_eq_true rfl) ⟨_, by rw [gPuts, if_neg (by rw [gEgOk, hb]; decide)], rfl, r1, r2, rfl⟩
  obtain ⟨hb, rfl, rfl⟩ := hp_
  show eZ x E _ [eMac E c, eO j 5 [.int g.w, .int g.sh, .int g.y, .int g.c, .int g.sp, .int g.t], rs] 92 [some (.ref c.a), some (.int ln), some (.ref j), none] [] 1 7
  have hif : (eBt ln 0 3 && gEgOk g) = true := hb
  rw [Bool.and_eq_true] at hb
  obtain ⟨N, hN, rfl⟩ := eBt_N (hb.1)
  have hN4 : N < 4 := Nat.lt_succ_of_le hN
  obtain ⟨l_, hln⟩ : ∃ l_, c.lns[N]? = some l_ := ⟨_, List.getElem?_eq_getElem (by omega)⟩
  have hat : (lA c.lns)[N]? = some l_.a := by rw [List.getElem?_map, hln]; rfl
  have hgL : gL c.abs (nI N) = (l_.v, qG l_.zs) := gL_N (by omega) hln
  have hz8 : l_.zs.length ≤ 8 := hl8 l_ (List.mem_of_getElem? hln)
  refine z_cut 0 (bs := [eO c.a 1 [.ref c.la, .ref c.ca, .ref c.ba, .ref c.sa, .int c.u.tk, .int c.u.cm, .int c.u.dk, .int c.u.co, .int c.u.wt, .int c.u.lk], eAL E c.la c.lq c.lm (lA c.lns), eLans 0 c.lns, eAL E c.ca c.cq c.cm (kA c.crs), eCrs c.crs, eLL c.ba c.bm (bX c.bk), eIA E c.sa 4 c.st]) rfl eMac_cut rfl ?_
  show eZ x E _ [eO c.a 1 [.ref c.la, .ref c.ca, .ref c.ba, .ref c.sa, .int c.u.tk, .int c.u.cm, .int c.u.dk, .int c.u.co, .int c.u.wt, .int c.u.lk], eAL E c.la c.lq c.lm (lA c.lns), eLans 0 c.lns, eAL E c.ca c.cq c.cm (kA c.crs), eCrs c.crs, eLL c.ba c.bm (bX c.bk), eIA E c.sa 4 c.st, eO j 5 [.int g.w, .int g.sh, .int g.y, .int g.c, .int g.sp, .int g.t], rs] 92 [some (.ref c.a), some (.int (nI N)), some (.ref j), none] [] 1 7
  refine z_cut 2 (bs := [eLans 0 (c.lns.take N), eO l_.a 2 [.int (nI N), .ref l_.qa, .int l_.v.li, .int l_.v.tu, .int l_.v.st, .int l_.v.gd, .int l_.v.ck], eLL l_.qa l_.m (qX l_.zs), qE l_.zs, eLans (N + 1) (c.lns.drop (N + 1))]) rfl (by rw [eLans_at hln, eLan_cut]; simp) rfl ?_
  show eZ x E _ [eO c.a 1 [.ref c.la, .ref c.ca, .ref c.ba, .ref c.sa, .int c.u.tk, .int c.u.cm, .int c.u.dk, .int c.u.co, .int c.u.wt, .int c.u.lk], eAL E c.la c.lq c.lm (lA c.lns), eLans 0 (c.lns.take N), eO l_.a 2 [.int (nI N), .ref l_.qa, .int l_.v.li, .int l_.v.tu, .int l_.v.st, .int l_.v.gd, .int l_.v.ck], eLL l_.qa l_.m (qX l_.zs), qE l_.zs, eLans (N + 1) (c.lns.drop (N + 1)), eAL E c.ca c.cq c.cm (kA c.crs), eCrs c.crs, eLL c.ba c.bm (bX c.bk), eIA E c.sa 4 c.st, eO j 5 [.int g.w, .int g.sh, .int g.y, .int g.c, .int g.sp, .int g.t], rs] 92 [some (.ref c.a), some (.int (nI N)), some (.ref j), none] [] 1 7
  refine z_aload_n C dX1_puts_92 rfl rfl ?_
  refine z_get eK1 0 0 C dX1_puts_93 rfl rfl q307 (eSame1 rfl) (by decide) rfl ?_
  refine z_iload_n C dX1_puts_96 rfl rfl ?_
  refine z_callV (r := (RJ2, TJ2, 3)) (As := [.int (nI N)]) (rest := []) (Δ := [eO c.a 1 [.ref c.la, .ref c.ca, .ref c.ba, .ref c.sa, .int c.u.tk, .int c.u.cm, .int c.u.dk, .int c.u.co, .int c.u.wt, .int c.u.lk], eLans 0 (c.lns.take N), eO l_.a 2 [.int (nI N), .ref l_.qa, .int l_.v.li, .int l_.v.tu, .int l_.v.st, .int l_.v.gd, .int l_.v.ck], eLL l_.qa l_.m (qX l_.zs), qE l_.zs, eLans (N + 1) (c.lns.drop (N + 1)), eAL E c.ca c.cq c.cm (kA c.crs), eCrs c.crs, eLL c.ba c.bm (bX c.bk), eIA E c.sa 4 c.st, eO j 5 [.int g.w, .int g.sh, .int g.y, .int g.c, .int g.sp, .int g.t], rs]) [1] [0, 2, 3, 4, 5, 6, 7, 8, 9, 10, 11, 12] 1 (m_AL_get hl E c.la c.lq c.lm (lA c.lns) hla N l_.a hat) C dX1_puts_97 rfl rfl (eIn (i := 1) rfl eAL_mem) rfl rfl q1029 q506 q1944 q53 q507 (by decide +kernel) rfl (ePm 13 rfl (by decide +kernel)) rfl rfl ⟨Nat.le_of_ble_eq_true rfl, Nat.le_of_ble_eq_true rfl⟩ (Nat.le_trans eS0 (Nat.le_of_ble_eq_true rfl)) ⟨Nat.le_of_ble_eq_true rfl, Nat.le_of_ble_eq_true rfl⟩ (fun v_ Γ_ hp_ => ?_)
  obtain ⟨rfl, rfl⟩ := hp_
  show eZ x E _ [eAL E c.la c.lq c.lm (lA c.lns), eO c.a 1 [.ref c.la, .ref c.ca, .ref c.ba, .ref c.sa, .int c.u.tk, .int c.u.cm, .int c.u.dk, .int c.u.co, .int c.u.wt, .int c.u.lk], eLans 0 (c.lns.take N), eO l_.a 2 [.int (nI N), .ref l_.qa, .int l_.v.li, .int l_.v.tu, .int l_.v.st, .int l_.v.gd, .int l_.v.ck], eLL l_.qa l_.m (qX l_.zs), qE l_.zs, eLans (N + 1) (c.lns.drop (N + 1)), eAL E c.ca c.cq c.cm (kA c.crs), eCrs c.crs, eLL c.ba c.bm (bX c.bk), eIA E c.sa 4 c.st, eO j 5 [.int g.w, .int g.sh, .int g.y, .int g.c, .int g.sp, .int g.t], rs] 100 [some (.ref c.a), some (.int (nI N)), some (.ref j), none] [.ref l_.a] 1 7
  refine z_castE C dX1_puts_100 (eIn (i := 3) rfl List.mem_cons_self) (show eCl[2]? = some _ from rfl) rfl q162 ?_
  refine z_getN eK2 3 1 C dX1_puts_103 rfl rfl q173 (eSame1 rfl) (by decide) rfl ?_
  refine z_astore_n (L2 := [some (.ref c.a), some (.int (nI N)), some (.ref j), some (.ref l_.qa)]) C dX1_puts_106 rfl (Nat.le_of_ble_eq_true rfl) rfl ?_
  refine z_aload_n C dX1_puts_107 rfl rfl ?_
  refine z_callV (r := (RJ4, TJ4, 4)) (As := []) (rest := []) (Δ := [eAL E c.la c.lq c.lm (lA c.lns), eO c.a 1 [.ref c.la, .ref c.ca, .ref c.ba, .ref c.sa, .int c.u.tk, .int c.u.cm, .int c.u.dk, .int c.u.co, .int c.u.wt, .int c.u.lk], eLans 0 (c.lns.take N), eO l_.a 2 [.int (nI N), .ref l_.qa, .int l_.v.li, .int l_.v.tu, .int l_.v.st, .int l_.v.gd, .int l_.v.ck], qE l_.zs, eLans (N + 1) (c.lns.drop (N + 1)), eAL E c.ca c.cq c.cm (kA c.crs), eCrs c.crs, eLL c.ba c.bm (bX c.bk), eIA E c.sa 4 c.st, eO j 5 [.int g.w, .int g.sh, .int g.y, .int g.c, .int g.sp, .int g.t], rs]) [4] [0, 1, 2, 3, 5, 6, 7, 8, 9, 10, 11, 12] 0 (m_LL_size hl E l_.qa l_.m (qX l_.zs)) C dX1_puts_108 rfl rfl (eIn (i := 4) rfl eLL_mem) rfl rfl q1030 q471 q1945 q55 q472 (by decide +kernel) rfl (ePm 13 rfl (by decide +kernel)) rfl rfl ⟨Nat.le_of_ble_eq_true rfl, Nat.le_of_ble_eq_true rfl⟩ (Nat.le_trans eS0 (Nat.le_of_ble_eq_true rfl)) ⟨Nat.le_of_ble_eq_true rfl, Nat.le_of_ble_eq_true rfl⟩ (fun v_ Γ_ hp_ => ?_)
  obtain ⟨rfl, rfl⟩ := hp_
  show eZ x E _ [eLL l_.qa l_.m (qX l_.zs), eAL E c.la c.lq c.lm (lA c.lns), eO c.a 1 [.ref c.la, .ref c.ca, .ref c.ba, .ref c.sa, .int c.u.tk, .int c.u.cm, .int c.u.dk, .int c.u.co, .int c.u.wt, .int c.u.lk], eLans 0 (c.lns.take N), eO l_.a 2 [.int (nI N), .ref l_.qa, .int l_.v.li, .int l_.v.tu, .int l_.v.st, .int l_.v.gd, .int l_.v.ck], qE l_.zs, eLans (N + 1) (c.lns.drop (N + 1)), eAL E c.ca c.cq c.cm (kA c.crs), eCrs c.crs, eLL c.ba c.bm (bX c.bk), eIA E c.sa 4 c.st, eO j 5 [.int g.w, .int g.sh, .int g.y, .int g.c, .int g.sp, .int g.t], rs] 111 [some (.ref c.a), some (.int (nI N)), some (.ref j), some (.ref l_.qa)] [.int (nI (qX l_.zs).length)] 1 7
  refine z_bipush (v := 8) C dX1_puts_111 (by decide) ?_
  have hlen : (qX l_.zs).length = l_.zs.length := List.length_map _
  have hlenG : (qG l_.zs).length = l_.zs.length := List.length_map _
  suffices J_ : eZ x E Q_ [eLL l_.qa l_.m (qX l_.zs), eAL E c.la c.lq c.lm (lA c.lns), eO c.a 1 [.ref c.la, .ref c.ca, .ref c.ba, .ref c.sa, .int c.u.tk, .int c.u.cm, .int c.u.dk, .int c.u.co, .int c.u.wt, .int c.u.lk], eLans 0 (c.lns.take N), eO l_.a 2 [.int (nI N), .ref l_.qa, .int l_.v.li, .int l_.v.tu, .int l_.v.st, .int l_.v.gd, .int l_.v.ck], qE l_.zs, eLans (N + 1) (c.lns.drop (N + 1)), eAL E c.ca c.cq c.cm (kA c.crs), eCrs c.crs, eLL c.ba c.bm (bX c.bk), eIA E c.sa 4 c.st, eO j 5 [.int g.w, .int g.sh, .int g.y, .int g.c, .int g.sp, .int g.t], rs] 121 [some (.ref c.a), some (.int (nI N)), some (.ref j), some (.ref l_.qa)] [.int (eB (decide (l_.zs.length < 8)))] 1 7 by
    refine z_icmp_ge 120 C dX1_puts_113 (by decide) (fun h_ => ?_) (fun h_ => ?_)
    · refine z_iconst (v := 0) C dX1_puts_120 (by decide) ?_
      refine z_is (w := eB (decide (l_.zs.length < 8))) (by rw [decide_eq_false (by rw [hlen] at h_; intro h; exact absurd (nI_lt (a := l_.zs.length) (b := 8) h (by decide)) (Int32.not_lt.mpr h_))]; rfl) ?_
      exact J_
    · refine z_iconst (v := 1) C dX1_puts_116 (by decide) ?_
      refine z_goto 121 C dX1_puts_117 (by decide) ?_
      refine z_is (w := eB (decide (l_.zs.length < 8))) (by rw [decide_eq_true (by rw [hlen] at h_; rcases Nat.lt_or_ge l_.zs.length 8 with h | h; exact h; exact absurd (nI_le (a := 8) (b := l_.zs.length) h (by omega)) h_)]; rfl) ?_
      exact J_
  refine z_ldcw C dX1_puts_121 rfl q1031 ?_
  refine z_callSNX (As := [.int (eB (decide (l_.zs.length < 8))), .int (-1000003)]) (rest := []) (Δ := [eLL l_.qa l_.m (qX l_.zs), eAL E c.la c.lq c.lm (lA c.lns), eO c.a 1 [.ref c.la, .ref c.ca, .ref c.ba, .ref c.sa, .int c.u.tk, .int c.u.cm, .int c.u.dk, .int c.u.co, .int c.u.wt, .int c.u.lk], eLans 0 (c.lns.take N), eO l_.a 2 [.int (nI N), .ref l_.qa, .int l_.v.li, .int l_.v.tu, .int l_.v.st, .int l_.v.gd, .int l_.v.ck], qE l_.zs, eLans (N + 1) (c.lns.drop (N + 1)), eAL E c.ca c.cq c.cm (kA c.crs), eCrs c.crs, eLL c.ba c.bm (bX c.bk), eIA E c.sa 4 c.st, eO j 5 [.int g.w, .int g.sh, .int g.y, .int g.c, .int g.sp, .int g.t], rs]) [] [0, 1, 2, 3, 4, 5, 6, 7, 8, 9, 10, 11, 12] 2 (m_need hl E (decide (l_.zs.length < 8)) (-1000003)) C dX1_puts_124 rfl rfl rfl q1001 q1002 q49 q1003 (by decide +kernel) rfl (ePm 13 rfl (by decide +kernel)) rfl rfl ⟨Nat.le_of_ble_eq_true rfl, Nat.le_of_ble_eq_true rfl⟩ (Nat.le_trans eS0 (Nat.le_of_ble_eq_true rfl)) ⟨Nat.le_of_ble_eq_true rfl, Nat.le_of_ble_eq_true rfl⟩ (fun q_ En_ Γ_ hx_ => ?_) (fun v_ Γ_ hp_ => ?_)
  · obtain ⟨hb2, rfl, r1, r2, rfl⟩ := hx_
    show eY x E _ [eRfB E q_ (-1000003) r1 r2, eLL l_.qa l_.m (qX l_.zs), eAL E c.la c.lq c.lm (lA c.lns), eO c.a 1 [.ref c.la, .ref c.ca, .ref c.ba, .ref c.sa, .int c.u.tk, .int c.u.cm, .int c.u.dk, .int c.u.co, .int c.u.wt, .int c.u.lk], eLans 0 (c.lns.take N), eO l_.a 2 [.int (nI N), .ref l_.qa, .int l_.v.li, .int l_.v.tu, .int l_.v.st, .int l_.v.gd, .int l_.v.ck], qE l_.zs, eLans (N + 1) (c.lns.drop (N + 1)), eAL E c.ca c.cq c.cm (kA c.crs), eCrs c.crs, eLL c.ba c.bm (bX c.bk), eIA E c.sa 4 c.st, eO j 5 [.int g.w, .int g.sh, .int g.y, .int g.c, .int g.sp, .int g.t], rs] 124 [some (.ref c.a), some (.int (nI N)), some (.ref j), some (.ref l_.qa)] [] q_ 2 14
    refine y_perm (Γ' := [eRfB E q_ (-1000003) r1 r2, eMac E c, eO j 5 [.int g.w, .int g.sh, .int g.y, .int g.c, .int g.sp, .int g.t], rs]) ?_ ?_
    · exact (ePick_perm (ks := [0, 3, 2, 4, 5, 1, 6, 7, 8, 9, 10, 11, 12, 13]) (ePm 14 rfl (by decide +kernel))).trans (List.Perm.of_eq (by rw [eMac_cut, eLans_at hln, eLan_cut]; simp [ePick]))
    subst hQ_
    exact z_out (Γ := [eRfB E q_ (-1000003) r1 r2, eMac E c, eO j 5 [.int g.w, .int g.sh, .int g.y, .int g.c, .int g.sp, .int g.t]]) C hT (by decide) (eIn (i := 0) rfl List.mem_cons_self) (show eCl[6]? = some _ from rfl) (Nat.le_of_ble_eq_true rfl) (Nat.le_of_ble_eq_true rfl) ⟨_, by rw [gPuts, if_pos hif, hgL, if_neg (by rw [hlenG]; exact of_decide_eq_false hb2)], rfl, r1, r2, rfl⟩
  obtain ⟨hb2, rfl, rfl⟩ := hp_
  show eZ x E _ [eLL l_.qa l_.m (qX l_.zs), eAL E c.la c.lq c.lm (lA c.lns), eO c.a 1 [.ref c.la, .ref c.ca, .ref c.ba, .ref c.sa, .int c.u.tk, .int c.u.cm, .int c.u.dk, .int c.u.co, .int c.u.wt, .int c.u.lk], eLans 0 (c.lns.take N), eO l_.a 2 [.int (nI N), .ref l_.qa, .int l_.v.li, .int l_.v.tu, .int l_.v.st, .int l_.v.gd, .int l_.v.ck], qE l_.zs, eLans (N + 1) (c.lns.drop (N + 1)), eAL E c.ca c.cq c.cm (kA c.crs), eCrs c.crs, eLL c.ba c.bm (bX c.bk), eIA E c.sa 4 c.st, eO j 5 [.int g.w, .int g.sh, .int g.y, .int g.c, .int g.sp, .int g.t], rs] 127 [some (.ref c.a), some (.int (nI N)), some (.ref j), some (.ref l_.qa)] [] 2 14
  refine z_aload_n C dX1_puts_127 rfl rfl ?_
  refine z_aload_n C dX1_puts_128 rfl rfl ?_
  refine z_callV (r := (RJ4, TJ4, 4)) (As := [.ref j]) (rest := []) (Δ := [eAL E c.la c.lq c.lm (lA c.lns), eO c.a 1 [.ref c.la, .ref c.ca, .ref c.ba, .ref c.sa, .int c.u.tk, .int c.u.cm, .int c.u.dk, .int c.u.co, .int c.u.wt, .int c.u.lk], eLans 0 (c.lns.take N), eO l_.a 2 [.int (nI N), .ref l_.qa, .int l_.v.li, .int l_.v.tu, .int l_.v.st, .int l_.v.gd, .int l_.v.ck], qE l_.zs, eLans (N + 1) (c.lns.drop (N + 1)), eAL E c.ca c.cq c.cm (kA c.crs), eCrs c.crs, eLL c.ba c.bm (bX c.bk), eIA E c.sa 4 c.st, eO j 5 [.int g.w, .int g.sh, .int g.y, .int g.c, .int g.sp, .int g.t], rs]) [0] [1, 2, 3, 4, 5, 6, 7, 8, 9, 10, 11, 12] 1 (m_LL_addLast hl E l_.qa j l_.m (qX l_.zs)) C dX1_puts_129 rfl rfl (eIn (i := 0) rfl eLL_mem) rfl rfl q972 q939 q940 q55 q941 (by decide +kernel) rfl (ePm 13 rfl (by decide +kernel)) rfl rfl ⟨Nat.le_of_ble_eq_true rfl, Nat.le_of_ble_eq_true rfl⟩ (Nat.le_trans eS0 (Nat.le_of_ble_eq_true rfl)) ⟨Nat.le_of_ble_eq_true rfl, Nat.le_of_ble_eq_true rfl⟩ (fun v_ Γ_ hp_ => ?_)
  obtain ⟨rfl, n1, rfl⟩ := hp_
  show eZ x E _ [eLL l_.qa (l_.m + 1) (qX l_.zs ++ [(n1, j)]), eAL E c.la c.lq c.lm (lA c.lns), eO c.a 1 [.ref c.la, .ref c.ca, .ref c.ba, .ref c.sa, .int c.u.tk, .int c.u.cm, .int c.u.dk, .int c.u.co, .int c.u.wt, .int c.u.lk], eLans 0 (c.lns.take N), eO l_.a 2 [.int (nI N), .ref l_.qa, .int l_.v.li, .int l_.v.tu, .int l_.v.st, .int l_.v.gd, .int l_.v.ck], qE l_.zs, eLans (N + 1) (c.lns.drop (N + 1)), eAL E c.ca c.cq c.cm (kA c.crs), eCrs c.crs, eLL c.ba c.bm (bX c.bk), eIA E c.sa 4 c.st, eO j 5 [.int g.w, .int g.sh, .int g.y, .int g.c, .int g.sp, .int g.t], rs] 132 [some (.ref c.a), some (.int (nI N)), some (.ref j), some (.ref l_.qa)] [] 3 17
  refine z_aload_n C dX1_puts_132 rfl rfl ?_
  refine z_dup C dX1_puts_133 rfl ?_
  refine z_get eK1 2 5 C dX1_puts_134 rfl rfl q317 (eSame1 rfl) (by decide) rfl ?_
  refine z_iconst (v := 1) C dX1_puts_137 (by decide) ?_
  refine z_iadd (w := c.u.cm + 1) C dX1_puts_138 rfl ?_
  refine z_put eK1 2 5 (Γ2 := [eLL l_.qa (l_.m + 1) (qX l_.zs ++ [(n1, j)]), eAL E c.la c.lq c.lm (lA c.lns), eO c.a 1 [.ref c.la, .ref c.ca, .ref c.ba, .ref c.sa, .int c.u.tk, .int (c.u.cm + 1), .int c.u.dk, .int c.u.co, .int c.u.wt, .int c.u.lk], eLans 0 (c.lns.take N), eO l_.a 2 [.int (nI N), .ref l_.qa, .int l_.v.li, .int l_.v.tu, .int l_.v.st, .int l_.v.gd, .int l_.v.ck], qE l_.zs, eLans (N + 1) (c.lns.drop (N + 1)), eAL E c.ca c.cq c.cm (kA c.crs), eCrs c.crs, eLL c.ba c.bm (bX c.bk), eIA E c.sa 4 c.st, eO j 5 [.int g.w, .int g.sh, .int g.y, .int g.c, .int g.sp, .int g.t], rs]) C dX1_puts_139 rfl rfl q317 (eSame1 rfl) (by decide) rfl rfl rfl rfl (Nat.le_of_ble_eq_true rfl) rfl ?_
  refine z_aload_n C dX1_puts_142 rfl rfl ?_
  refine z_callV (r := (RJ4, TJ4, 4)) (As := []) (rest := []) (Δ := [eAL E c.la c.lq c.lm (lA c.lns), eO c.a 1 [.ref c.la, .ref c.ca, .ref c.ba, .ref c.sa, .int c.u.tk, .int (c.u.cm + 1), .int c.u.dk, .int c.u.co, .int c.u.wt, .int c.u.lk], eLans 0 (c.lns.take N), eO l_.a 2 [.int (nI N), .ref l_.qa, .int l_.v.li, .int l_.v.tu, .int l_.v.st, .int l_.v.gd, .int l_.v.ck], qE l_.zs, eLans (N + 1) (c.lns.drop (N + 1)), eAL E c.ca c.cq c.cm (kA c.crs), eCrs c.crs, eLL c.ba c.bm (bX c.bk), eIA E c.sa 4 c.st, eO j 5 [.int g.w, .int g.sh, .int g.y, .int g.c, .int g.sp, .int g.t], rs]) [0] [1, 2, 3, 4, 5, 6, 7, 8, 9, 10, 11, 12] 0 (m_LL_size hl E l_.qa (l_.m + 1) (qX l_.zs ++ [(n1, j)])) C dX1_puts_143 rfl rfl (eIn (i := 0) rfl eLL_mem) rfl rfl q1030 q471 q1945 q55 q472 (by decide +kernel) rfl (ePm 13 rfl (by decide +kernel)) rfl rfl ⟨Nat.le_of_ble_eq_true rfl, Nat.le_of_ble_eq_true rfl⟩ (Nat.le_trans eS0 (Nat.le_of_ble_eq_true rfl)) ⟨Nat.le_of_ble_eq_true rfl, Nat.le_of_ble_eq_true rfl⟩ (fun v_ Γ_ hp_ => ?_)
  obtain ⟨rfl, rfl⟩ := hp_
  show eZ x E _ [eLL l_.qa (l_.m + 1) (qX l_.zs ++ [(n1, j)]), eAL E c.la c.lq c.lm (lA c.lns), eO c.a 1 [.ref c.la, .ref c.ca, .ref c.ba, .ref c.sa, .int c.u.tk, .int (c.u.cm + 1), .int c.u.dk, .int c.u.co, .int c.u.wt, .int c.u.lk], eLans 0 (c.lns.take N), eO l_.a 2 [.int (nI N), .ref l_.qa, .int l_.v.li, .int l_.v.tu, .int l_.v.st, .int l_.v.gd, .int l_.v.ck], qE l_.zs, eLans (N + 1) (c.lns.drop (N + 1)), eAL E c.ca c.cq c.cm (kA c.crs), eCrs c.crs, eLL c.ba c.bm (bX c.bk), eIA E c.sa 4 c.st, eO j 5 [.int g.w, .int g.sh, .int g.y, .int g.c, .int g.sp, .int g.t], rs] 146 [some (.ref c.a), some (.int (nI N)), some (.ref j), some (.ref l_.qa)] [.int (nI (qX l_.zs ++ [(n1, j)]).length)] 3 17
  refine z_is (w := nI (l_.zs.length + 1)) (by rw [List.length_append, hlen]; rfl) ?_
  refine z_go (Γ' := [eLL l_.qa (l_.m + 1) (qX (l_.zs ++ [((n1, j), g)])), eAL E c.la c.lq c.lm (lA c.lns), eO c.a 1 [.ref c.la, .ref c.ca, .ref c.ba, .ref c.sa, .int c.u.tk, .int (c.u.cm + 1), .int c.u.dk, .int c.u.co, .int c.u.wt, .int c.u.lk], eLans 0 (c.lns.take N), eO l_.a 2 [.int (nI N), .ref l_.qa, .int l_.v.li, .int l_.v.tu, .int l_.v.st, .int l_.v.gd, .int l_.v.ck], qE l_.zs, eLans (N + 1) (c.lns.drop (N + 1)), eAL E c.ca c.cq c.cm (kA c.crs), eCrs c.crs, eLL c.ba c.bm (bX c.bk), eIA E c.sa 4 c.st, eO j 5 [.int g.w, .int g.sh, .int g.y, .int g.c, .int g.sp, .int g.t], rs]) (by simp) ?_
  show eZ x E _ [eLL l_.qa (l_.m + 1) (qX (l_.zs ++ [((n1, j), g)])), eAL E c.la c.lq c.lm (lA c.lns), eO c.a 1 [.ref c.la, .ref c.ca, .ref c.ba, .ref c.sa, .int c.u.tk, .int (c.u.cm + 1), .int c.u.dk, .int c.u.co, .int c.u.wt, .int c.u.lk], eLans 0 (c.lns.take N), eO l_.a 2 [.int (nI N), .ref l_.qa, .int l_.v.li, .int l_.v.tu, .int l_.v.st, .int l_.v.gd, .int l_.v.ck], qE l_.zs, eLans (N + 1) (c.lns.drop (N + 1)), eAL E c.ca c.cq c.cm (kA c.crs), eCrs c.crs, eLL c.ba c.bm (bX c.bk), eIA E c.sa 4 c.st, eO j 5 [.int g.w, .int g.sh, .int g.y, .int g.c, .int g.sp, .int g.t], rs] 146 [some (.ref c.a), some (.int (nI N)), some (.ref j), some (.ref l_.qa)] [.int (nI (l_.zs.length + 1))] 3 17
  refine z_pick (Γ' := [qE l_.zs, eO j 5 [.int g.w, .int g.sh, .int g.y, .int g.c, .int g.sp, .int g.t], eLL l_.qa (l_.m + 1) (qX (l_.zs ++ [((n1, j), g)])), eAL E c.la c.lq c.lm (lA c.lns), eO c.a 1 [.ref c.la, .ref c.ca, .ref c.ba, .ref c.sa, .int c.u.tk, .int (c.u.cm + 1), .int c.u.dk, .int c.u.co, .int c.u.wt, .int c.u.lk], eLans 0 (c.lns.take N), eO l_.a 2 [.int (nI N), .ref l_.qa, .int l_.v.li, .int l_.v.tu, .int l_.v.st, .int l_.v.gd, .int l_.v.ck], eLans (N + 1) (c.lns.drop (N + 1)), eAL E c.ca c.cq c.cm (kA c.crs), eCrs c.crs, eLL c.ba c.bm (bX c.bk), eIA E c.sa 4 c.st, rs]) [5, 11, 0, 1, 2, 3, 4, 6, 7, 8, 9, 10, 12] (ePm 13 rfl (by decide +kernel)) rfl ?_
  refine z_join 2 (b := qE (l_.zs ++ [((n1, j), g)])) (by simp [qE_app, qE_cons, qE_nil]) rfl ?_
  show eZ x E _ [qE (l_.zs ++ [((n1, j), g)]), eLL l_.qa (l_.m + 1) (qX (l_.zs ++ [((n1, j), g)])), eAL E c.la c.lq c.lm (lA c.lns), eO c.a 1 [.ref c.la, .ref c.ca, .ref c.ba, .ref c.sa, .int c.u.tk, .int (c.u.cm + 1), .int c.u.dk, .int c.u.co, .int c.u.wt, .int c.u.lk], eLans 0 (c.lns.take N), eO l_.a 2 [.int (nI N), .ref l_.qa, .int l_.v.li, .int l_.v.tu, .int l_.v.st, .int l_.v.gd, .int l_.v.ck], eLans (N + 1) (c.lns.drop (N + 1)), eAL E c.ca c.cq c.cm (kA c.crs), eCrs c.crs, eLL c.ba c.bm (bX c.bk), eIA E c.sa 4 c.st, rs] 146 [some (.ref c.a), some (.int (nI N)), some (.ref j), some (.ref l_.qa)] [.int (nI (l_.zs.length + 1))] 3 17
  have hla2 : lA (c.lns.set N (l_.a, l_.qa, l_.m + 1, (l_.zs ++ [((n1, j), g)]), l_.v)) = lA c.lns := lA_set hln rfl
  refine z_pick (Γ' := [eLans 0 (c.lns.take N), eO l_.a 2 [.int (nI N), .ref l_.qa, .int l_.v.li, .int l_.v.tu, .int l_.v.st, .int l_.v.gd, .int l_.v.ck], eLL l_.qa (l_.m + 1) (qX (l_.zs ++ [((n1, j), g)])), qE (l_.zs ++ [((n1, j), g)]), eLans (N + 1) (c.lns.drop (N + 1)), eAL E c.la c.lq c.lm (lA c.lns), eO c.a 1 [.ref c.la, .ref c.ca, .ref c.ba, .ref c.sa, .int c.u.tk, .int (c.u.cm + 1), .int c.u.dk, .int c.u.co, .int c.u.wt, .int c.u.lk], eAL E c.ca c.cq c.cm (kA c.crs), eCrs c.crs, eLL c.ba c.bm (bX c.bk), eIA E c.sa 4 c.st, rs]) [4, 5, 1, 0, 6, 2, 3, 7, 8, 9, 10, 11] (ePm 12 rfl (by decide +kernel)) rfl ?_
  refine z_join 5 (b := eLans 0 (c.lns.set N (l_.a, l_.qa, l_.m + 1, (l_.zs ++ [((n1, j), g)]), l_.v))) (by rw [eLans_set (by omega), eLan_cut]; simp only [List.take, List.flatten_cons, List.flatten_nil, List.append_nil, List.append_assoc]; try rfl) rfl ?_
  show eZ x E _ [eLans 0 (c.lns.set N (l_.a, l_.qa, l_.m + 1, (l_.zs ++ [((n1, j), g)]), l_.v)), eAL E c.la c.lq c.lm (lA c.lns), eO c.a 1 [.ref c.la, .ref c.ca, .ref c.ba, .ref c.sa, .int c.u.tk, .int (c.u.cm + 1), .int c.u.dk, .int c.u.co, .int c.u.wt, .int c.u.lk], eAL E c.ca c.cq c.cm (kA c.crs), eCrs c.crs, eLL c.ba c.bm (bX c.bk), eIA E c.sa 4 c.st, rs] 146 [some (.ref c.a), some (.int (nI N)), some (.ref j), some (.ref l_.qa)] [.int (nI (l_.zs.length + 1))] 3 17
  refine z_pick (Γ' := [eO c.a 1 [.ref c.la, .ref c.ca, .ref c.ba, .ref c.sa, .int c.u.tk, .int (c.u.cm + 1), .int c.u.dk, .int c.u.co, .int c.u.wt, .int c.u.lk], eAL E c.la c.lq c.lm (lA c.lns), eLans 0 (c.lns.set N (l_.a, l_.qa, l_.m + 1, (l_.zs ++ [((n1, j), g)]), l_.v)), eAL E c.ca c.cq c.cm (kA c.crs), eCrs c.crs, eLL c.ba c.bm (bX c.bk), eIA E c.sa 4 c.st, rs]) [2, 1, 0, 3, 4, 5, 6, 7] (ePm 8 rfl (by decide +kernel)) rfl ?_
  refine z_join 7 (b := eMac E (c.a, c.la, c.lq, c.lm, (c.lns.set N (l_.a, l_.qa, l_.m + 1, (l_.zs ++ [((n1, j), g)]), l_.v)), c.ca, c.cq, c.cm, c.crs, c.ba, c.bm, c.bk, c.sa, c.st, (c.u.tk, c.u.cm + 1, c.u.dk, c.u.co, c.u.wt, c.u.lk))) (by rw [eMac_cut]; simp only [List.take]; rw [← hla2]; try rfl) rfl ?_
  show eZ x E _ [eMac E (c.a, c.la, c.lq, c.lm, (c.lns.set N (l_.a, l_.qa, l_.m + 1, (l_.zs ++ [((n1, j), g)]), l_.v)), c.ca, c.cq, c.cm, c.crs, c.ba, c.bm, c.bk, c.sa, c.st, (c.u.tk, c.u.cm + 1, c.u.dk, c.u.co, c.u.wt, c.u.lk)), rs] 146 [some (.ref c.a), some (.int (nI N)), some (.ref j), some (.ref l_.qa)] [.int (nI (l_.zs.length + 1))] 3 17
  have hset := gSetL_N (c := c) (N := N) (l2 := (l_.a, l_.qa, l_.m + 1, (l_.zs ++ [((n1, j), g)]), l_.v)) (by omega)
  have hq : qG (l_.zs ++ [((n1, j), g)]) = qG l_.zs ++ [g] := by simp [qG]
  rw [show Cl.v (l_.a, l_.qa, l_.m + 1, (l_.zs ++ [((n1, j), g)]), l_.v) = l_.v from rfl, show Cl.zs (l_.a, l_.qa, l_.m + 1, (l_.zs ++ [((n1, j), g)]), l_.v) = (l_.zs ++ [((n1, j), g)]) from rfl, hq] at hset
  refine z_pick (Γ' := [eMac E (c.a, c.la, c.lq, c.lm, (c.lns.set N (l_.a, l_.qa, l_.m + 1, (l_.zs ++ [((n1, j), g)]), l_.v)), c.ca, c.cq, c.cm, c.crs, c.ba, c.bm, c.bk, c.sa, c.st, (c.u.tk, c.u.cm + 1, c.u.dk, c.u.co, c.u.wt, c.u.lk)), rs]) [0, 1] (ePm 2 rfl (by decide +kernel)) rfl ?_
  subst hQ_
  refine z_X ?_
  exact z_ret (Γ := [eMac E (c.a, c.la, c.lq, c.lm, (c.lns.set N (l_.a, l_.qa, l_.m + 1, (l_.zs ++ [((n1, j), g)]), l_.v)), c.ca, c.cq, c.cm, c.crs, c.ba, c.bm, c.bk, c.sa, c.st, (c.u.tk, c.u.cm + 1, c.u.dk, c.u.co, c.u.wt, c.u.lk))]) C dX1_puts_146 rfl rfl (Nat.le_of_ble_eq_true rfl) (Nat.le_of_ble_eq_true rfl) ⟨_, _, (c.a, c.la, c.lq, c.lm, (c.lns.set N (l_.a, l_.qa, l_.m + 1, (l_.zs ++ [((n1, j), g)]), l_.v)), c.ca, c.cq, c.cm, c.crs, c.ba, c.bm, c.bk, c.sa, c.st, (c.u.tk, c.u.cm + 1, c.u.dk, c.u.co, c.u.wt, c.u.lk)), by rw [gPuts, if_pos hif, hgL, if_pos (by rw [hlenG]; exact of_decide_eq_true hb2), hlenG], rfl, rfl, by rw [← hset]; rfl, rfl, rfl⟩

theorem gSpL_snoc (sp : Int32) (gs : List Eg) (g : Eg) : gSpL sp (gs ++ [g]) = (g.sp ||| sp, gs ++ [gSpE sp g]) := by
  induction gs with
  | nil => rfl
  | cons h t ih =>
    cases t with
    | nil => rfl
    | cons k t =>
      show ((gSpL sp (k :: (t ++ [g]))).1, h :: (gSpL sp (k :: (t ++ [g]))).2) = _
      rw [show k :: (t ++ [g]) = (k :: t) ++ [g] from rfl, ih]
      rfl
def gM (n : Int32) : Nat := if eBt n 1 50 = true then nN n else 0
theorem gM_le (n : Int32) : gM n ≤ 50 := by
  unfold gM
  split
  · rename_i h
    have h1 := of_decide_eq_true h
    exact nN_le (Int32.le_trans (by decide) h1.1) h1.2
  · exact Nat.zero_le _
theorem gTicks_succ (d : Nat) (p : Int32 × Am) : gTicks (d + 1) p = gTicks d (p.1 + (gTick p.2).1, (gTick p.2).2) := rfl
theorem gTicks_ok (d : Nat) (p : Int32 × Am) (h : gOk p.2) : gOk (gTicks d p).2 := by
  induction d generalizing p with
  | zero => exact h
  | succ d ih => exact ih _ (gTick_ok h)
def gCks (A : Am) : Int32 := A.ls.foldl (fun s l => s + l.1.ck) 0
def gInQ (A : Am) : Int32 := A.ls.foldl (fun s l => s + nI l.2.length) 0
def gOf (w : Int32) (k : Cr) : Int32 := if w = 3 then k.all else if w = 7 then k.sold else k.returned
def gOfC (A : Am) (w : Int32) : Int32 := A.cs.foldl (fun s k => s + gOf w k) 0

set_option maxHeartbeats 4000000 in
theorem m_spots {l : Launch} (hl : l.stackTraces = false) (E : eEn) (c : Cm) (hok : gOk c.abs) (ln sp : Int32) : eMetX l E yX1_spots (ws_ yX1_spots cX1_spots 4 (some .int)) ({ frames := 7, cells := 2, slots := 14, locals := 124 }) [.ref c.a, .int ln, .int sp] [eMac E c] (fun w Γ => ∃ r A2 c2, gSpots c.abs ln sp = .inr (r, A2) ∧ w = some (.int r) ∧ Γ = [eMac E c2] ∧ c2.abs = A2 ∧ c2.a = c.a ∧ c2.bk = c.bk) (fun q En Γ => ∃ code, gSpots c.abs ln sp = .inl code ∧ En = RX6 ∧ ∃ r1 r2, Γ = [eRfB E q code r1 r2, eMac E c]) := by
  refine eStartX (cc := cX1_spots) (nL := 4) (L := [some (.ref c.a), some (.int ln), some (.int sp), none]) hl (by decide) rfl (List.forall_mem_cons.mpr ⟨rfl, (List.forall_mem_cons.mpr ⟨rfl, (List.forall_mem_cons.mpr ⟨rfl, (fun _ h => absurd h List.not_mem_nil)⟩)⟩)⟩) (Nat.le_of_ble_eq_true rfl) ?_
  intro x rs C hT
  show eZ x E (eQX x E (fun w Γ => ∃ r A2 c2, gSpots c.abs ln sp = .inr (r, A2) ∧ w = some (.int r) ∧ Γ = [eMac E c2] ∧ c2.abs = A2 ∧ c2.a = c.a ∧ c2.bk = c.bk) (fun q En Γ => ∃ code, gSpots c.abs ln sp = .inl code ∧ En = RX6 ∧ ∃ r1 r2, Γ = [eRfB E q code r1 r2, eMac E c]) rs) [eMac E c, rs] 0 [some (.ref c.a), some (.int ln), some (.int sp), none] [] 0 0
  generalize hQ_ : eQX x E (fun w Γ => ∃ r A2 c2, gSpots c.abs ln sp = .inr (r, A2) ∧ w = some (.int r) ∧ Γ = [eMac E c2] ∧ c2.abs = A2 ∧ c2.a = c.a ∧ c2.bk = c.bk) (fun q En Γ => ∃ code, gSpots c.abs ln sp = .inl code ∧ En = RX6 ∧ ∃ r1 r2, Γ = [eRfB E q code r1 r2, eMac E c]) rs = Q_
  obtain ⟨hk1, hk2, hk3, hk4, hk5, hk6⟩ := hok
  have hl4 : c.lns.length = 4 := by have h : (lV c.lns).length = 4 := hk1; rw [List.length_map] at h; exact h
  have hl8 : ∀ l ∈ c.lns, l.zs.length ≤ 8 := fun l hl => by have h : (qG l.zs).length ≤ 8 := hk2 _ (List.mem_map.mpr ⟨l, hl, rfl⟩); rw [List.length_map] at h; exact h
  have hc6 : c.crs.length = 6 := by have h : (c.crs.map Prod.snd).length = 6 := hk3; rw [List.length_map] at h; exact h
  have hb10 : c.bk.length ≤ 10 := by have h : (c.bk.map Prod.snd).length ≤ 10 := hk4; rw [List.length_map] at h; exact h
  have hla : (lA c.lns).length ≤ 10 := by rw [List.length_map]; omega
  have hka : (kA c.crs).length ≤ 10 := by rw [List.length_map]; omega
  suffices J_ : eZ x E Q_ [eMac E c, rs] 19 [some (.ref c.a), some (.int ln), some (.int sp), none] [.int (eB (eBt ln 0 3 && eBt sp 0 255))] 0 0 by
    refine z_iload_n C dX1_spots_0 rfl rfl ?_
    refine z_callSN (As := [.int ln]) (rest := []) (Δ := [eMac E c, rs]) [] [0, 1] 1 (m_isLane hl E ln) C dX1_spots_1 rfl rfl rfl q982 q983 q49 q984 (by decide +kernel) rfl (ePm 2 rfl (by decide +kernel)) rfl rfl ⟨Nat.le_of_ble_eq_true rfl, Nat.le_of_ble_eq_true rfl⟩ (Nat.le_trans eS0 (Nat.le_of_ble_eq_true rfl)) ⟨Nat.le_of_ble_eq_true rfl, Nat.le_of_ble_eq_true rfl⟩ (fun v_ Γ_ hp_ => ?_)
    obtain ⟨rfl, rfl⟩ := hp_
    show eZ x E _ [eMac E c, rs] 4 [some (.ref c.a), some (.int ln), some (.int sp), none] [.int (eB (eBt ln 0 3))] 0 0
    refine z_if_eq_B 18 C dX1_spots_4 (by decide) (fun hc0 => ?_) (fun hc0 => ?_)
    · refine z_iconst (v := 0) C dX1_spots_18 (by decide) ?_
      refine z_is (w := eB (eBt ln 0 3 && eBt sp 0 255)) (by rw [show (eBt ln 0 3 && eBt sp 0 255) = false from by simp [hc0]]; rfl) ?_
      exact J_
    · refine z_iload_n C dX1_spots_7 rfl rfl ?_
      refine z_callSN (As := [.int sp]) (rest := []) (Δ := [eMac E c, rs]) [] [0, 1] 1 (m_isSpots hl E sp) C dX1_spots_8 rfl rfl rfl q993 q994 q49 q995 (by decide +kernel) rfl (ePm 2 rfl (by decide +kernel)) rfl rfl ⟨Nat.le_of_ble_eq_true rfl, Nat.le_of_ble_eq_true rfl⟩ (Nat.le_trans eS0 (Nat.le_of_ble_eq_true rfl)) ⟨Nat.le_of_ble_eq_true rfl, Nat.le_of_ble_eq_true rfl⟩ (fun v_ Γ_ hp_ => ?_)
      obtain ⟨rfl, rfl⟩ := hp_
      show eZ x E _ [eMac E c, rs] 11 [some (.ref c.a), some (.int ln), some (.int sp), none] [.int (eB (eBt sp 0 255))] 0 0
      refine z_if_eq_B 18 C dX1_spots_11 (by decide) (fun hc1 => ?_) (fun hc1 => ?_)
      · refine z_iconst (v := 0) C dX1_spots_18 (by decide) ?_
        refine z_is (w := eB (eBt ln 0 3 && eBt sp 0 255)) (by rw [show (eBt ln 0 3 && eBt sp 0 255) = false from by simp [hc0, hc1]]; rfl) ?_
        exact J_
      · refine z_iconst (v := 1) C dX1_spots_14 (by decide) ?_
        refine z_goto 19 C dX1_spots_15 (by decide) ?_
        refine z_is (w := eB (eBt ln 0 3 && eBt sp 0 255)) (by rw [show (eBt ln 0 3 && eBt sp 0 255) = true from by simp [hc0, hc1]]; rfl) ?_
        exact J_
  refine z_ldcw C dX1_spots_19 rfl q1000 ?_
  refine z_callSNX (As := [.int (eB (eBt ln 0 3 && eBt sp 0 255)), .int (-1000001)]) (rest := []) (Δ := [eMac E c, rs]) [] [0, 1] 2 (m_need hl E (eBt ln 0 3 && eBt sp 0 255) (-1000001)) C dX1_spots_22 rfl rfl rfl q1001 q1002 q49 q1003 (by decide +kernel) rfl (ePm 2 rfl (by decide +kernel)) rfl rfl ⟨Nat.le_of_ble_eq_true rfl, Nat.le_of_ble_eq_true rfl⟩ (Nat.le_trans eS0 (Nat.le_of_ble_eq_true rfl)) ⟨Nat.le_of_ble_eq_true rfl, Nat.le_of_ble_eq_true rfl⟩ (fun q_ En_ Γ_ hx_ => ?_) (fun v_ Γ_ hp_ => ?_)
  · obtain ⟨hb, rfl, r1, r2, rfl⟩ := hx_
    show eY x E _ [eRfB E q_ (-1000001) r1 r2, eMac E c, rs] 22 [some (.ref c.a), some (.int ln), some (.int sp), none] [] q_ 1 7
    subst hQ_
    exact z_out (Γ := [eRfB E q_ (-1000001) r1 r2, eMac E c]) C hT (by decide) (eIn (i := 0) rfl List.mem_cons_self) (show eCl[6]? = some _ from rfl) (Nat.le_of_ble_eq_true rfl) (Nat.le_of_ble_eq_true rfl) ⟨_, by rw [gSpots, if_neg (by rw [hb]; decide)], rfl, r1, r2, rfl⟩
  obtain ⟨hb, rfl, rfl⟩ := hp_
  show eZ x E _ [eMac E c, rs] 25 [some (.ref c.a), some (.int ln), some (.int sp), none] [] 1 7
  have hif := hb
  rw [Bool.and_eq_true] at hb
  obtain ⟨N, hN, rfl⟩ := eBt_N (hb.1)
  have hN4 : N < 4 := Nat.lt_succ_of_le hN
  obtain ⟨l_, hln⟩ : ∃ l_, c.lns[N]? = some l_ := ⟨_, List.getElem?_eq_getElem (by omega)⟩
  have hat : (lA c.lns)[N]? = some l_.a := by rw [List.getElem?_map, hln]; rfl
  have hgL : gL c.abs (nI N) = (l_.v, qG l_.zs) := gL_N (by omega) hln
  have hz8 : l_.zs.length ≤ 8 := hl8 l_ (List.mem_of_getElem? hln)
  refine z_cut 0 (bs := [eO c.a 1 [.ref c.la, .ref c.ca, .ref c.ba, .ref c.sa, .int c.u.tk, .int c.u.cm, .int c.u.dk, .int c.u.co, .int c.u.wt, .int c.u.lk], eAL E c.la c.lq c.lm (lA c.lns), eLans 0 c.lns, eAL E c.ca c.cq c.cm (kA c.crs), eCrs c.crs, eLL c.ba c.bm (bX c.bk), eIA E c.sa 4 c.st]) rfl eMac_cut rfl ?_
  show eZ x E _ [eO c.a 1 [.ref c.la, .ref c.ca, .ref c.ba, .ref c.sa, .int c.u.tk, .int c.u.cm, .int c.u.dk, .int c.u.co, .int c.u.wt, .int c.u.lk], eAL E c.la c.lq c.lm (lA c.lns), eLans 0 c.lns, eAL E c.ca c.cq c.cm (kA c.crs), eCrs c.crs, eLL c.ba c.bm (bX c.bk), eIA E c.sa 4 c.st, rs] 25 [some (.ref c.a), some (.int (nI N)), some (.int sp), none] [] 1 7
  refine z_cut 2 (bs := [eLans 0 (c.lns.take N), eO l_.a 2 [.int (nI N), .ref l_.qa, .int l_.v.li, .int l_.v.tu, .int l_.v.st, .int l_.v.gd, .int l_.v.ck], eLL l_.qa l_.m (qX l_.zs), qE l_.zs, eLans (N + 1) (c.lns.drop (N + 1))]) rfl (by rw [eLans_at hln, eLan_cut]; simp) rfl ?_
  show eZ x E _ [eO c.a 1 [.ref c.la, .ref c.ca, .ref c.ba, .ref c.sa, .int c.u.tk, .int c.u.cm, .int c.u.dk, .int c.u.co, .int c.u.wt, .int c.u.lk], eAL E c.la c.lq c.lm (lA c.lns), eLans 0 (c.lns.take N), eO l_.a 2 [.int (nI N), .ref l_.qa, .int l_.v.li, .int l_.v.tu, .int l_.v.st, .int l_.v.gd, .int l_.v.ck], eLL l_.qa l_.m (qX l_.zs), qE l_.zs, eLans (N + 1) (c.lns.drop (N + 1)), eAL E c.ca c.cq c.cm (kA c.crs), eCrs c.crs, eLL c.ba c.bm (bX c.bk), eIA E c.sa 4 c.st, rs] 25 [some (.ref c.a), some (.int (nI N)), some (.int sp), none] [] 1 7
  refine z_aload_n C dX1_spots_25 rfl rfl ?_
  refine z_get eK1 0 0 C dX1_spots_26 rfl rfl q307 (eSame1 rfl) (by decide) rfl ?_
  refine z_iload_n C dX1_spots_29 rfl rfl ?_
  refine z_callV (r := (RJ2, TJ2, 3)) (As := [.int (nI N)]) (rest := []) (Δ := [eO c.a 1 [.ref c.la, .ref c.ca, .ref c.ba, .ref c.sa, .int c.u.tk, .int c.u.cm, .int c.u.dk, .int c.u.co, .int c.u.wt, .int c.u.lk], eLans 0 (c.lns.take N), eO l_.a 2 [.int (nI N), .ref l_.qa, .int l_.v.li, .int l_.v.tu, .int l_.v.st, .int l_.v.gd, .int l_.v.ck], eLL l_.qa l_.m (qX l_.zs), qE l_.zs, eLans (N + 1) (c.lns.drop (N + 1)), eAL E c.ca c.cq c.cm (kA c.crs), eCrs c.crs, eLL c.ba c.bm (bX c.bk), eIA E c.sa 4 c.st, rs]) [1] [0, 2, 3, 4, 5, 6, 7, 8, 9, 10, 11] 1 (m_AL_get hl E c.la c.lq c.lm (lA c.lns) hla N l_.a hat) C dX1_spots_30 rfl rfl (eIn (i := 1) rfl eAL_mem) rfl rfl q1029 q506 q1944 q53 q507 (by decide +kernel) rfl (ePm 12 rfl (by decide +kernel)) rfl rfl ⟨Nat.le_of_ble_eq_true rfl, Nat.le_of_ble_eq_true rfl⟩ (Nat.le_trans eS0 (Nat.le_of_ble_eq_true rfl)) ⟨Nat.le_of_ble_eq_true rfl, Nat.le_of_ble_eq_true rfl⟩ (fun v_ Γ_ hp_ => ?_)
  obtain ⟨rfl, rfl⟩ := hp_
  show eZ x E _ [eAL E c.la c.lq c.lm (lA c.lns), eO c.a 1 [.ref c.la, .ref c.ca, .ref c.ba, .ref c.sa, .int c.u.tk, .int c.u.cm, .int c.u.dk, .int c.u.co, .int c.u.wt, .int c.u.lk], eLans 0 (c.lns.take N), eO l_.a 2 [.int (nI N), .ref l_.qa, .int l_.v.li, .int l_.v.tu, .int l_.v.st, .int l_.v.gd, .int l_.v.ck], eLL l_.qa l_.m (qX l_.zs), qE l_.zs, eLans (N + 1) (c.lns.drop (N + 1)), eAL E c.ca c.cq c.cm (kA c.crs), eCrs c.crs, eLL c.ba c.bm (bX c.bk), eIA E c.sa 4 c.st, rs] 33 [some (.ref c.a), some (.int (nI N)), some (.int sp), none] [.ref l_.a] 1 7
  refine z_castE C dX1_spots_33 (eIn (i := 3) rfl List.mem_cons_self) (show eCl[2]? = some _ from rfl) rfl q162 ?_
  refine z_getN eK2 3 1 C dX1_spots_36 rfl rfl q173 (eSame1 rfl) (by decide) rfl ?_
  refine z_astore_n (L2 := [some (.ref c.a), some (.int (nI N)), some (.int sp), some (.ref l_.qa)]) C dX1_spots_39 rfl (Nat.le_of_ble_eq_true rfl) rfl ?_
  refine z_aload_n C dX1_spots_40 rfl rfl ?_
  have hz2 : (qX l_.zs).length < 1000000 := by rw [List.length_map]; omega
  refine z_callU (r := (RJ4, TJ4, 4)) (As := []) (rest := []) (Δ := [eAL E c.la c.lq c.lm (lA c.lns), eO c.a 1 [.ref c.la, .ref c.ca, .ref c.ba, .ref c.sa, .int c.u.tk, .int c.u.cm, .int c.u.dk, .int c.u.co, .int c.u.wt, .int c.u.lk], eLans 0 (c.lns.take N), eO l_.a 2 [.int (nI N), .ref l_.qa, .int l_.v.li, .int l_.v.tu, .int l_.v.st, .int l_.v.gd, .int l_.v.ck], qE l_.zs, eLans (N + 1) (c.lns.drop (N + 1)), eAL E c.ca c.cq c.cm (kA c.crs), eCrs c.crs, eLL c.ba c.bm (bX c.bk), eIA E c.sa 4 c.st, rs]) [4] [0, 1, 2, 3, 5, 6, 7, 8, 9, 10, 11] 0 (m_LL_isEmpty hl E l_.qa l_.m (qX l_.zs) hz2) C dX1_spots_41 rfl rfl (eIn (i := 4) rfl eLL_mem) rfl rfl (eCU (owner := "java/util/AbstractCollection") q1036 q1037 q1039 q1040 q51 q1041 rfl (by decide +kernel)) rfl (ePm 12 rfl (by decide +kernel)) rfl rfl ⟨Nat.le_of_ble_eq_true rfl, Nat.le_of_ble_eq_true rfl⟩ (Nat.le_trans eS0 (Nat.le_of_ble_eq_true rfl)) ⟨Nat.le_of_ble_eq_true rfl, Nat.le_of_ble_eq_true rfl⟩ (fun v_ Γ_ hp_ => ?_)
  obtain ⟨rfl, rfl⟩ := hp_
  show eZ x E _ [eLL l_.qa l_.m (qX l_.zs), eAL E c.la c.lq c.lm (lA c.lns), eO c.a 1 [.ref c.la, .ref c.ca, .ref c.ba, .ref c.sa, .int c.u.tk, .int c.u.cm, .int c.u.dk, .int c.u.co, .int c.u.wt, .int c.u.lk], eLans 0 (c.lns.take N), eO l_.a 2 [.int (nI N), .ref l_.qa, .int l_.v.li, .int l_.v.tu, .int l_.v.st, .int l_.v.gd, .int l_.v.ck], qE l_.zs, eLans (N + 1) (c.lns.drop (N + 1)), eAL E c.ca c.cq c.cm (kA c.crs), eCrs c.crs, eLL c.ba c.bm (bX c.bk), eIA E c.sa 4 c.st, rs] 44 [some (.ref c.a), some (.int (nI N)), some (.int sp), some (.ref l_.qa)] [.int (eB (qX l_.zs).isEmpty)] 1 7
  suffices J_ : eZ x E Q_ [eLL l_.qa l_.m (qX l_.zs), eAL E c.la c.lq c.lm (lA c.lns), eO c.a 1 [.ref c.la, .ref c.ca, .ref c.ba, .ref c.sa, .int c.u.tk, .int c.u.cm, .int c.u.dk, .int c.u.co, .int c.u.wt, .int c.u.lk], eLans 0 (c.lns.take N), eO l_.a 2 [.int (nI N), .ref l_.qa, .int l_.v.li, .int l_.v.tu, .int l_.v.st, .int l_.v.gd, .int l_.v.ck], qE l_.zs, eLans (N + 1) (c.lns.drop (N + 1)), eAL E c.ca c.cq c.cm (kA c.crs), eCrs c.crs, eLL c.ba c.bm (bX c.bk), eIA E c.sa 4 c.st, rs] 52 [some (.ref c.a), some (.int (nI N)), some (.int sp), some (.ref l_.qa)] [.int (eB (!(qX l_.zs).isEmpty))] 1 7 by
    refine z_if_ne_B 51 C dX1_spots_44 (by decide) (fun h_ => ?_) (fun h_ => ?_)
    · refine z_iconst (v := 0) C dX1_spots_51 (by decide) ?_
      refine z_is (w := eB (!(qX l_.zs).isEmpty)) (by rw [h_]; rfl) ?_
      exact J_
    · refine z_iconst (v := 1) C dX1_spots_47 (by decide) ?_
      refine z_goto 52 C dX1_spots_48 (by decide) ?_
      refine z_is (w := eB (!(qX l_.zs).isEmpty)) (by rw [h_]; rfl) ?_
      exact J_
  have hemp : (qG l_.zs).isEmpty = (qX l_.zs).isEmpty := by cases l_.zs <;> rfl
  refine z_ldcw C dX1_spots_52 rfl q1048 ?_
  refine z_callSNX (As := [.int (eB (!(qX l_.zs).isEmpty)), .int (-1000002)]) (rest := []) (Δ := [eLL l_.qa l_.m (qX l_.zs), eAL E c.la c.lq c.lm (lA c.lns), eO c.a 1 [.ref c.la, .ref c.ca, .ref c.ba, .ref c.sa, .int c.u.tk, .int c.u.cm, .int c.u.dk, .int c.u.co, .int c.u.wt, .int c.u.lk], eLans 0 (c.lns.take N), eO l_.a 2 [.int (nI N), .ref l_.qa, .int l_.v.li, .int l_.v.tu, .int l_.v.st, .int l_.v.gd, .int l_.v.ck], qE l_.zs, eLans (N + 1) (c.lns.drop (N + 1)), eAL E c.ca c.cq c.cm (kA c.crs), eCrs c.crs, eLL c.ba c.bm (bX c.bk), eIA E c.sa 4 c.st, rs]) [] [0, 1, 2, 3, 4, 5, 6, 7, 8, 9, 10, 11] 2 (m_need hl E (!(qX l_.zs).isEmpty) (-1000002)) C dX1_spots_55 rfl rfl rfl q1001 q1002 q49 q1003 (by decide +kernel) rfl (ePm 12 rfl (by decide +kernel)) rfl rfl ⟨Nat.le_of_ble_eq_true rfl, Nat.le_of_ble_eq_true rfl⟩ (Nat.le_trans eS0 (Nat.le_of_ble_eq_true rfl)) ⟨Nat.le_of_ble_eq_true rfl, Nat.le_of_ble_eq_true rfl⟩ (fun q_ En_ Γ_ hx_ => ?_) (fun v_ Γ_ hp_ => ?_)
  · obtain ⟨hb2, rfl, r1, r2, rfl⟩ := hx_
    show eY x E _ [eRfB E q_ (-1000002) r1 r2, eLL l_.qa l_.m (qX l_.zs), eAL E c.la c.lq c.lm (lA c.lns), eO c.a 1 [.ref c.la, .ref c.ca, .ref c.ba, .ref c.sa, .int c.u.tk, .int c.u.cm, .int c.u.dk, .int c.u.co, .int c.u.wt, .int c.u.lk], eLans 0 (c.lns.take N), eO l_.a 2 [.int (nI N), .ref l_.qa, .int l_.v.li, .int l_.v.tu, .int l_.v.st, .int l_.v.gd, .int l_.v.ck], qE l_.zs, eLans (N + 1) (c.lns.drop (N + 1)), eAL E c.ca c.cq c.cm (kA c.crs), eCrs c.crs, eLL c.ba c.bm (bX c.bk), eIA E c.sa 4 c.st, rs] 55 [some (.ref c.a), some (.int (nI N)), some (.int sp), some (.ref l_.qa)] [] q_ 2 14
    refine y_perm (Γ' := [eRfB E q_ (-1000002) r1 r2, eMac E c, rs]) ?_ ?_
    · exact (ePick_perm (ks := [0, 3, 2, 4, 5, 1, 6, 7, 8, 9, 10, 11, 12]) (ePm 13 rfl (by decide +kernel))).trans (List.Perm.of_eq (by rw [eMac_cut, eLans_at hln, eLan_cut]; simp [ePick]))
    subst hQ_
    exact z_out (Γ := [eRfB E q_ (-1000002) r1 r2, eMac E c]) C hT (by decide) (eIn (i := 0) rfl List.mem_cons_self) (show eCl[6]? = some _ from rfl) (Nat.le_of_ble_eq_true rfl) (Nat.le_of_ble_eq_true rfl) ⟨_, by rw [gSpots, if_pos hif, hgL, if_pos (by rw [hemp]; simpa using hb2)], rfl, r1, r2, rfl⟩
  obtain ⟨hb2, rfl, rfl⟩ := hp_
  show eZ x E _ [eLL l_.qa l_.m (qX l_.zs), eAL E c.la c.lq c.lm (lA c.lns), eO c.a 1 [.ref c.la, .ref c.ca, .ref c.ba, .ref c.sa, .int c.u.tk, .int c.u.cm, .int c.u.dk, .int c.u.co, .int c.u.wt, .int c.u.lk], eLans 0 (c.lns.take N), eO l_.a 2 [.int (nI N), .ref l_.qa, .int l_.v.li, .int l_.v.tu, .int l_.v.st, .int l_.v.gd, .int l_.v.ck], qE l_.zs, eLans (N + 1) (c.lns.drop (N + 1)), eAL E c.ca c.cq c.cm (kA c.crs), eCrs c.crs, eLL c.ba c.bm (bX c.bk), eIA E c.sa 4 c.st, rs] 58 [some (.ref c.a), some (.int (nI N)), some (.int sp), some (.ref l_.qa)] [] 2 14
  have hne : l_.zs ≠ [] := fun h => by rw [h] at hb2; cases hb2
  obtain ⟨ys, ⟨⟨n1, j1⟩, g1⟩, hys⟩ : ∃ ys z, l_.zs = ys ++ [z] := by
    rcases List.eq_nil_or_concat l_.zs with h | ⟨ys, z, h⟩
    · exact absurd h hne
    · exact ⟨ys, z, by rw [h, List.concat_eq_append]⟩
  refine z_go (Γ' := [eLL l_.qa l_.m (qX ys ++ [(n1, j1)]), eAL E c.la c.lq c.lm (lA c.lns), eO c.a 1 [.ref c.la, .ref c.ca, .ref c.ba, .ref c.sa, .int c.u.tk, .int c.u.cm, .int c.u.dk, .int c.u.co, .int c.u.wt, .int c.u.lk], eLans 0 (c.lns.take N), eO l_.a 2 [.int (nI N), .ref l_.qa, .int l_.v.li, .int l_.v.tu, .int l_.v.st, .int l_.v.gd, .int l_.v.ck], qE l_.zs, eLans (N + 1) (c.lns.drop (N + 1)), eAL E c.ca c.cq c.cm (kA c.crs), eCrs c.crs, eLL c.ba c.bm (bX c.bk), eIA E c.sa 4 c.st, rs]) (by rw [show qX l_.zs = qX ys ++ [(n1, j1)] from by rw [hys]; simp]) ?_
  show eZ x E _ [eLL l_.qa l_.m (qX ys ++ [(n1, j1)]), eAL E c.la c.lq c.lm (lA c.lns), eO c.a 1 [.ref c.la, .ref c.ca, .ref c.ba, .ref c.sa, .int c.u.tk, .int c.u.cm, .int c.u.dk, .int c.u.co, .int c.u.wt, .int c.u.lk], eLans 0 (c.lns.take N), eO l_.a 2 [.int (nI N), .ref l_.qa, .int l_.v.li, .int l_.v.tu, .int l_.v.st, .int l_.v.gd, .int l_.v.ck], qE l_.zs, eLans (N + 1) (c.lns.drop (N + 1)), eAL E c.ca c.cq c.cm (kA c.crs), eCrs c.crs, eLL c.ba c.bm (bX c.bk), eIA E c.sa 4 c.st, rs] 58 [some (.ref c.a), some (.int (nI N)), some (.int sp), some (.ref l_.qa)] [] 2 14
  refine z_cut 5 (bs := [qE ys, eO j1 5 [.int g1.w, .int g1.sh, .int g1.y, .int g1.c, .int g1.sp, .int g1.t]]) rfl (by rw [hys, qE_app, qE_cons, qE_nil]; simp) rfl ?_
  show eZ x E _ [eLL l_.qa l_.m (qX ys ++ [(n1, j1)]), eAL E c.la c.lq c.lm (lA c.lns), eO c.a 1 [.ref c.la, .ref c.ca, .ref c.ba, .ref c.sa, .int c.u.tk, .int c.u.cm, .int c.u.dk, .int c.u.co, .int c.u.wt, .int c.u.lk], eLans 0 (c.lns.take N), eO l_.a 2 [.int (nI N), .ref l_.qa, .int l_.v.li, .int l_.v.tu, .int l_.v.st, .int l_.v.gd, .int l_.v.ck], qE ys, eO j1 5 [.int g1.w, .int g1.sh, .int g1.y, .int g1.c, .int g1.sp, .int g1.t], eLans (N + 1) (c.lns.drop (N + 1)), eAL E c.ca c.cq c.cm (kA c.crs), eCrs c.crs, eLL c.ba c.bm (bX c.bk), eIA E c.sa 4 c.st, rs] 58 [some (.ref c.a), some (.int (nI N)), some (.int sp), some (.ref l_.qa)] [] 2 14
  refine z_aload_n C dX1_spots_58 rfl rfl ?_
  refine z_callV (r := (RJ4, TJ4, 4)) (As := []) (rest := []) (Δ := [eAL E c.la c.lq c.lm (lA c.lns), eO c.a 1 [.ref c.la, .ref c.ca, .ref c.ba, .ref c.sa, .int c.u.tk, .int c.u.cm, .int c.u.dk, .int c.u.co, .int c.u.wt, .int c.u.lk], eLans 0 (c.lns.take N), eO l_.a 2 [.int (nI N), .ref l_.qa, .int l_.v.li, .int l_.v.tu, .int l_.v.st, .int l_.v.gd, .int l_.v.ck], qE ys, eO j1 5 [.int g1.w, .int g1.sh, .int g1.y, .int g1.c, .int g1.sp, .int g1.t], eLans (N + 1) (c.lns.drop (N + 1)), eAL E c.ca c.cq c.cm (kA c.crs), eCrs c.crs, eLL c.ba c.bm (bX c.bk), eIA E c.sa 4 c.st, rs]) [0] [1, 2, 3, 4, 5, 6, 7, 8, 9, 10, 11, 12] 0 (m_LL_getLast hl E l_.qa n1 j1 l_.m (qX ys)) C dX1_spots_59 rfl rfl (eIn (i := 0) rfl eLL_mem) rfl rfl q1049 q1050 q1051 q55 q1052 (by decide +kernel) rfl (ePm 13 rfl (by decide +kernel)) rfl rfl ⟨Nat.le_of_ble_eq_true rfl, Nat.le_of_ble_eq_true rfl⟩ (Nat.le_trans eS0 (Nat.le_of_ble_eq_true rfl)) ⟨Nat.le_of_ble_eq_true rfl, Nat.le_of_ble_eq_true rfl⟩ (fun v_ Γ_ hp_ => ?_)
  obtain ⟨rfl, rfl⟩ := hp_
  show eZ x E _ [eLL l_.qa l_.m (qX ys ++ [(n1, j1)]), eAL E c.la c.lq c.lm (lA c.lns), eO c.a 1 [.ref c.la, .ref c.ca, .ref c.ba, .ref c.sa, .int c.u.tk, .int c.u.cm, .int c.u.dk, .int c.u.co, .int c.u.wt, .int c.u.lk], eLans 0 (c.lns.take N), eO l_.a 2 [.int (nI N), .ref l_.qa, .int l_.v.li, .int l_.v.tu, .int l_.v.st, .int l_.v.gd, .int l_.v.ck], qE ys, eO j1 5 [.int g1.w, .int g1.sh, .int g1.y, .int g1.c, .int g1.sp, .int g1.t], eLans (N + 1) (c.lns.drop (N + 1)), eAL E c.ca c.cq c.cm (kA c.crs), eCrs c.crs, eLL c.ba c.bm (bX c.bk), eIA E c.sa 4 c.st, rs] 62 [some (.ref c.a), some (.int (nI N)), some (.int sp), some (.ref l_.qa)] [.ref j1] 2 14
  refine z_castE C dX1_spots_62 (eIn (i := 6) rfl List.mem_cons_self) (show eCl[5]? = some _ from rfl) rfl q1053 ?_
  refine z_dup C dX1_spots_65 rfl ?_
  refine z_getN eK5 6 4 C dX1_spots_66 rfl rfl q920 (eSame1 rfl) (by decide) rfl ?_
  refine z_iload_n C dX1_spots_69 rfl rfl ?_
  refine z_ior (w := g1.sp ||| sp) C dX1_spots_70 rfl ?_
  refine z_putN eK5 6 4 (Γ2 := [eLL l_.qa l_.m (qX ys ++ [(n1, j1)]), eAL E c.la c.lq c.lm (lA c.lns), eO c.a 1 [.ref c.la, .ref c.ca, .ref c.ba, .ref c.sa, .int c.u.tk, .int c.u.cm, .int c.u.dk, .int c.u.co, .int c.u.wt, .int c.u.lk], eLans 0 (c.lns.take N), eO l_.a 2 [.int (nI N), .ref l_.qa, .int l_.v.li, .int l_.v.tu, .int l_.v.st, .int l_.v.gd, .int l_.v.ck], qE ys, eO j1 5 [.int g1.w, .int g1.sh, .int g1.y, .int g1.c, .int (g1.sp ||| sp), .int g1.t], eLans (N + 1) (c.lns.drop (N + 1)), eAL E c.ca c.cq c.cm (kA c.crs), eCrs c.crs, eLL c.ba c.bm (bX c.bk), eIA E c.sa 4 c.st, rs]) C dX1_spots_71 rfl rfl q920 (eSame1 rfl) (by decide) rfl rfl rfl rfl (Nat.le_of_ble_eq_true rfl) rfl ?_
  refine z_aload_n C dX1_spots_74 rfl rfl ?_
  refine z_callV (r := (RJ4, TJ4, 4)) (As := []) (rest := []) (Δ := [eAL E c.la c.lq c.lm (lA c.lns), eO c.a 1 [.ref c.la, .ref c.ca, .ref c.ba, .ref c.sa, .int c.u.tk, .int c.u.cm, .int c.u.dk, .int c.u.co, .int c.u.wt, .int c.u.lk], eLans 0 (c.lns.take N), eO l_.a 2 [.int (nI N), .ref l_.qa, .int l_.v.li, .int l_.v.tu, .int l_.v.st, .int l_.v.gd, .int l_.v.ck], qE ys, eO j1 5 [.int g1.w, .int g1.sh, .int g1.y, .int g1.c, .int (g1.sp ||| sp), .int g1.t], eLans (N + 1) (c.lns.drop (N + 1)), eAL E c.ca c.cq c.cm (kA c.crs), eCrs c.crs, eLL c.ba c.bm (bX c.bk), eIA E c.sa 4 c.st, rs]) [0] [1, 2, 3, 4, 5, 6, 7, 8, 9, 10, 11, 12] 0 (m_LL_getLast hl E l_.qa n1 j1 l_.m (qX ys)) C dX1_spots_75 rfl rfl (eIn (i := 0) rfl eLL_mem) rfl rfl q1049 q1050 q1051 q55 q1052 (by decide +kernel) rfl (ePm 13 rfl (by decide +kernel)) rfl rfl ⟨Nat.le_of_ble_eq_true rfl, Nat.le_of_ble_eq_true rfl⟩ (Nat.le_trans eS0 (Nat.le_of_ble_eq_true rfl)) ⟨Nat.le_of_ble_eq_true rfl, Nat.le_of_ble_eq_true rfl⟩ (fun v_ Γ_ hp_ => ?_)
  obtain ⟨rfl, rfl⟩ := hp_
  show eZ x E _ [eLL l_.qa l_.m (qX ys ++ [(n1, j1)]), eAL E c.la c.lq c.lm (lA c.lns), eO c.a 1 [.ref c.la, .ref c.ca, .ref c.ba, .ref c.sa, .int c.u.tk, .int c.u.cm, .int c.u.dk, .int c.u.co, .int c.u.wt, .int c.u.lk], eLans 0 (c.lns.take N), eO l_.a 2 [.int (nI N), .ref l_.qa, .int l_.v.li, .int l_.v.tu, .int l_.v.st, .int l_.v.gd, .int l_.v.ck], qE ys, eO j1 5 [.int g1.w, .int g1.sh, .int g1.y, .int g1.c, .int (g1.sp ||| sp), .int g1.t], eLans (N + 1) (c.lns.drop (N + 1)), eAL E c.ca c.cq c.cm (kA c.crs), eCrs c.crs, eLL c.ba c.bm (bX c.bk), eIA E c.sa 4 c.st, rs] 78 [some (.ref c.a), some (.int (nI N)), some (.int sp), some (.ref l_.qa)] [.ref j1] 2 14
  refine z_castE C dX1_spots_78 (eIn (i := 6) rfl List.mem_cons_self) (show eCl[5]? = some _ from rfl) rfl q1053 ?_
  refine z_getN eK5 6 4 C dX1_spots_81 rfl rfl q920 (eSame1 rfl) (by decide) rfl ?_
  refine z_pick (Γ' := [qE ys, eO j1 5 [.int g1.w, .int g1.sh, .int g1.y, .int g1.c, .int (g1.sp ||| sp), .int g1.t], eLL l_.qa l_.m (qX ys ++ [(n1, j1)]), eAL E c.la c.lq c.lm (lA c.lns), eO c.a 1 [.ref c.la, .ref c.ca, .ref c.ba, .ref c.sa, .int c.u.tk, .int c.u.cm, .int c.u.dk, .int c.u.co, .int c.u.wt, .int c.u.lk], eLans 0 (c.lns.take N), eO l_.a 2 [.int (nI N), .ref l_.qa, .int l_.v.li, .int l_.v.tu, .int l_.v.st, .int l_.v.gd, .int l_.v.ck], eLans (N + 1) (c.lns.drop (N + 1)), eAL E c.ca c.cq c.cm (kA c.crs), eCrs c.crs, eLL c.ba c.bm (bX c.bk), eIA E c.sa 4 c.st, rs]) [5, 6, 0, 1, 2, 3, 4, 7, 8, 9, 10, 11, 12] (ePm 13 rfl (by decide +kernel)) rfl ?_
  refine z_join 2 (b := qE (ys ++ [((n1, j1), gSpE sp g1)])) (by simp [qE_app, qE_cons, qE_nil, gSpE]) rfl ?_
  show eZ x E _ [qE (ys ++ [((n1, j1), gSpE sp g1)]), eLL l_.qa l_.m (qX ys ++ [(n1, j1)]), eAL E c.la c.lq c.lm (lA c.lns), eO c.a 1 [.ref c.la, .ref c.ca, .ref c.ba, .ref c.sa, .int c.u.tk, .int c.u.cm, .int c.u.dk, .int c.u.co, .int c.u.wt, .int c.u.lk], eLans 0 (c.lns.take N), eO l_.a 2 [.int (nI N), .ref l_.qa, .int l_.v.li, .int l_.v.tu, .int l_.v.st, .int l_.v.gd, .int l_.v.ck], eLans (N + 1) (c.lns.drop (N + 1)), eAL E c.ca c.cq c.cm (kA c.crs), eCrs c.crs, eLL c.ba c.bm (bX c.bk), eIA E c.sa 4 c.st, rs] 84 [some (.ref c.a), some (.int (nI N)), some (.int sp), some (.ref l_.qa)] [.int (g1.sp ||| sp)] 2 14
  refine z_go (Γ' := [qE (ys ++ [((n1, j1), gSpE sp g1)]), eLL l_.qa l_.m (qX (ys ++ [((n1, j1), gSpE sp g1)])), eAL E c.la c.lq c.lm (lA c.lns), eO c.a 1 [.ref c.la, .ref c.ca, .ref c.ba, .ref c.sa, .int c.u.tk, .int c.u.cm, .int c.u.dk, .int c.u.co, .int c.u.wt, .int c.u.lk], eLans 0 (c.lns.take N), eO l_.a 2 [.int (nI N), .ref l_.qa, .int l_.v.li, .int l_.v.tu, .int l_.v.st, .int l_.v.gd, .int l_.v.ck], eLans (N + 1) (c.lns.drop (N + 1)), eAL E c.ca c.cq c.cm (kA c.crs), eCrs c.crs, eLL c.ba c.bm (bX c.bk), eIA E c.sa 4 c.st, rs]) (by simp) ?_
  show eZ x E _ [qE (ys ++ [((n1, j1), gSpE sp g1)]), eLL l_.qa l_.m (qX (ys ++ [((n1, j1), gSpE sp g1)])), eAL E c.la c.lq c.lm (lA c.lns), eO c.a 1 [.ref c.la, .ref c.ca, .ref c.ba, .ref c.sa, .int c.u.tk, .int c.u.cm, .int c.u.dk, .int c.u.co, .int c.u.wt, .int c.u.lk], eLans 0 (c.lns.take N), eO l_.a 2 [.int (nI N), .ref l_.qa, .int l_.v.li, .int l_.v.tu, .int l_.v.st, .int l_.v.gd, .int l_.v.ck], eLans (N + 1) (c.lns.drop (N + 1)), eAL E c.ca c.cq c.cm (kA c.crs), eCrs c.crs, eLL c.ba c.bm (bX c.bk), eIA E c.sa 4 c.st, rs] 84 [some (.ref c.a), some (.int (nI N)), some (.int sp), some (.ref l_.qa)] [.int (g1.sp ||| sp)] 2 14
  have hla2 : lA (c.lns.set N (l_.a, l_.qa, l_.m, (ys ++ [((n1, j1), gSpE sp g1)]), l_.v)) = lA c.lns := lA_set hln rfl
  refine z_pick (Γ' := [eLans 0 (c.lns.take N), eO l_.a 2 [.int (nI N), .ref l_.qa, .int l_.v.li, .int l_.v.tu, .int l_.v.st, .int l_.v.gd, .int l_.v.ck], eLL l_.qa l_.m (qX (ys ++ [((n1, j1), gSpE sp g1)])), qE (ys ++ [((n1, j1), gSpE sp g1)]), eLans (N + 1) (c.lns.drop (N + 1)), eAL E c.la c.lq c.lm (lA c.lns), eO c.a 1 [.ref c.la, .ref c.ca, .ref c.ba, .ref c.sa, .int c.u.tk, .int c.u.cm, .int c.u.dk, .int c.u.co, .int c.u.wt, .int c.u.lk], eAL E c.ca c.cq c.cm (kA c.crs), eCrs c.crs, eLL c.ba c.bm (bX c.bk), eIA E c.sa 4 c.st, rs]) [4, 5, 1, 0, 6, 2, 3, 7, 8, 9, 10, 11] (ePm 12 rfl (by decide +kernel)) rfl ?_
  refine z_join 5 (b := eLans 0 (c.lns.set N (l_.a, l_.qa, l_.m, (ys ++ [((n1, j1), gSpE sp g1)]), l_.v))) (by rw [eLans_set (by omega), eLan_cut]; simp only [List.take, List.flatten_cons, List.flatten_nil, List.append_nil, List.append_assoc]; try rfl) rfl ?_
  show eZ x E _ [eLans 0 (c.lns.set N (l_.a, l_.qa, l_.m, (ys ++ [((n1, j1), gSpE sp g1)]), l_.v)), eAL E c.la c.lq c.lm (lA c.lns), eO c.a 1 [.ref c.la, .ref c.ca, .ref c.ba, .ref c.sa, .int c.u.tk, .int c.u.cm, .int c.u.dk, .int c.u.co, .int c.u.wt, .int c.u.lk], eAL E c.ca c.cq c.cm (kA c.crs), eCrs c.crs, eLL c.ba c.bm (bX c.bk), eIA E c.sa 4 c.st, rs] 84 [some (.ref c.a), some (.int (nI N)), some (.int sp), some (.ref l_.qa)] [.int (g1.sp ||| sp)] 2 14
  refine z_pick (Γ' := [eO c.a 1 [.ref c.la, .ref c.ca, .ref c.ba, .ref c.sa, .int c.u.tk, .int c.u.cm, .int c.u.dk, .int c.u.co, .int c.u.wt, .int c.u.lk], eAL E c.la c.lq c.lm (lA c.lns), eLans 0 (c.lns.set N (l_.a, l_.qa, l_.m, (ys ++ [((n1, j1), gSpE sp g1)]), l_.v)), eAL E c.ca c.cq c.cm (kA c.crs), eCrs c.crs, eLL c.ba c.bm (bX c.bk), eIA E c.sa 4 c.st, rs]) [2, 1, 0, 3, 4, 5, 6, 7] (ePm 8 rfl (by decide +kernel)) rfl ?_
  refine z_join 7 (b := eMac E (c.a, c.la, c.lq, c.lm, (c.lns.set N (l_.a, l_.qa, l_.m, (ys ++ [((n1, j1), gSpE sp g1)]), l_.v)), c.ca, c.cq, c.cm, c.crs, c.ba, c.bm, c.bk, c.sa, c.st, c.u)) (by rw [eMac_cut]; simp only [List.take]; rw [← hla2]; try rfl) rfl ?_
  show eZ x E _ [eMac E (c.a, c.la, c.lq, c.lm, (c.lns.set N (l_.a, l_.qa, l_.m, (ys ++ [((n1, j1), gSpE sp g1)]), l_.v)), c.ca, c.cq, c.cm, c.crs, c.ba, c.bm, c.bk, c.sa, c.st, c.u), rs] 84 [some (.ref c.a), some (.int (nI N)), some (.int sp), some (.ref l_.qa)] [.int (g1.sp ||| sp)] 2 14
  have hset := gSetL_N (c := c) (N := N) (l2 := (l_.a, l_.qa, l_.m, (ys ++ [((n1, j1), gSpE sp g1)]), l_.v)) (by omega)
  have hq : qG (ys ++ [((n1, j1), gSpE sp g1)]) = qG ys ++ [gSpE sp g1] := by simp [qG]
  have hq0 : qG l_.zs = qG ys ++ [g1] := by rw [hys]; simp [qG]
  rw [show Cl.v (l_.a, l_.qa, l_.m, (ys ++ [((n1, j1), gSpE sp g1)]), l_.v) = l_.v from rfl, show Cl.zs (l_.a, l_.qa, l_.m, (ys ++ [((n1, j1), gSpE sp g1)]), l_.v) = (ys ++ [((n1, j1), gSpE sp g1)]) from rfl, hq] at hset
  refine z_pick (Γ' := [eMac E (c.a, c.la, c.lq, c.lm, (c.lns.set N (l_.a, l_.qa, l_.m, (ys ++ [((n1, j1), gSpE sp g1)]), l_.v)), c.ca, c.cq, c.cm, c.crs, c.ba, c.bm, c.bk, c.sa, c.st, c.u), rs]) [0, 1] (ePm 2 rfl (by decide +kernel)) rfl ?_
  subst hQ_
  refine z_X ?_
  exact z_ret (Γ := [eMac E (c.a, c.la, c.lq, c.lm, (c.lns.set N (l_.a, l_.qa, l_.m, (ys ++ [((n1, j1), gSpE sp g1)]), l_.v)), c.ca, c.cq, c.cm, c.crs, c.ba, c.bm, c.bk, c.sa, c.st, c.u)]) C dX1_spots_84 rfl rfl (Nat.le_of_ble_eq_true rfl) (Nat.le_of_ble_eq_true rfl) ⟨_, _, (c.a, c.la, c.lq, c.lm, (c.lns.set N (l_.a, l_.qa, l_.m, (ys ++ [((n1, j1), gSpE sp g1)]), l_.v)), c.ca, c.cq, c.cm, c.crs, c.ba, c.bm, c.bk, c.sa, c.st, c.u), by rw [gSpots, if_pos hif, hgL, if_neg (by rw [hemp]; simpa using hb2), hq0, gSpL_snoc], rfl, rfl, hset, rfl, rfl⟩

set_option maxHeartbeats 4000000 in
theorem m_setsTo {l : Launch} (hl : l.stackTraces = false) (E : eEn) (c : Cm) (hok : gOk c.abs) (w v : Int32) : eMetX l E yX1_setsTo (ws_ yX1_setsTo cX1_setsTo 4 (some .int)) ({ frames := 7, cells := 2, slots := 14, locals := 124 }) [.ref c.a, .int w, .int v] [eMac E c] (fun w9 Γ => ∃ r A2 c2, gSets c.abs w v = .inr (r, A2) ∧ w9 = some (.int r) ∧ Γ = [eMac E c2] ∧ c2.abs = A2 ∧ c2.a = c.a ∧ c2.bk = c.bk) (fun q En Γ => ∃ code, gSets c.abs w v = .inl code ∧ En = RX6 ∧ ∃ r1 r2, Γ = [eRfB E q code r1 r2, eMac E c]) := by
  refine eStartX (cc := cX1_setsTo) (nL := 4) (L := [some (.ref c.a), some (.int w), some (.int v), none]) hl (by decide) rfl (List.forall_mem_cons.mpr ⟨rfl, (List.forall_mem_cons.mpr ⟨rfl, (List.forall_mem_cons.mpr ⟨rfl, (fun _ h => absurd h List.not_mem_nil)⟩)⟩)⟩) (Nat.le_of_ble_eq_true rfl) ?_
  intro x rs C hT
  show eZ x E (eQX x E (fun w9 Γ => ∃ r A2 c2, gSets c.abs w v = .inr (r, A2) ∧ w9 = some (.int r) ∧ Γ = [eMac E c2] ∧ c2.abs = A2 ∧ c2.a = c.a ∧ c2.bk = c.bk) (fun q En Γ => ∃ code, gSets c.abs w v = .inl code ∧ En = RX6 ∧ ∃ r1 r2, Γ = [eRfB E q code r1 r2, eMac E c]) rs) [eMac E c, rs] 0 [some (.ref c.a), some (.int w), some (.int v), none] [] 0 0
  generalize hQ_ : eQX x E (fun w9 Γ => ∃ r A2 c2, gSets c.abs w v = .inr (r, A2) ∧ w9 = some (.int r) ∧ Γ = [eMac E c2] ∧ c2.abs = A2 ∧ c2.a = c.a ∧ c2.bk = c.bk) (fun q En Γ => ∃ code, gSets c.abs w v = .inl code ∧ En = RX6 ∧ ∃ r1 r2, Γ = [eRfB E q code r1 r2, eMac E c]) rs = Q_
  obtain ⟨hk1, hk2, hk3, hk4, hk5, hk6⟩ := hok
  have hl4 : c.lns.length = 4 := by have h : (lV c.lns).length = 4 := hk1; rw [List.length_map] at h; exact h
  have hl8 : ∀ l ∈ c.lns, l.zs.length ≤ 8 := fun l hl => by have h : (qG l.zs).length ≤ 8 := hk2 _ (List.mem_map.mpr ⟨l, hl, rfl⟩); rw [List.length_map] at h; exact h
  have hc6 : c.crs.length = 6 := by have h : (c.crs.map Prod.snd).length = 6 := hk3; rw [List.length_map] at h; exact h
  have hb10 : c.bk.length ≤ 10 := by have h : (c.bk.map Prod.snd).length ≤ 10 := hk4; rw [List.length_map] at h; exact h
  have hla : (lA c.lns).length ≤ 10 := by rw [List.length_map]; omega
  have hka : (kA c.crs).length ≤ 10 := by rw [List.length_map]; omega
  refine z_iload_n C dX1_setsTo_0 rfl rfl ?_
  refine z_i2l (v := w.toInt64) C dX1_setsTo_1 rfl ?_
  refine z_lconst (v := 0) C dX1_setsTo_2 (by decide) ?_
  refine z_ldc2 C dX1_setsTo_3 rfl q1267 ?_
  refine z_callSN (As := [.long w.toInt64, .long 0, .long 3]) (rest := []) (Δ := [eMac E c, rs]) [] [0, 1] 3 (m_bt hl E w 0 3 0 3 (by decide) (by decide)) C dX1_setsTo_6 rfl rfl rfl q991 q987 q49 q988 (by decide +kernel) rfl (ePm 2 rfl (by decide +kernel)) rfl rfl ⟨Nat.le_of_ble_eq_true rfl, Nat.le_of_ble_eq_true rfl⟩ (Nat.le_trans eS0 (Nat.le_of_ble_eq_true rfl)) ⟨Nat.le_of_ble_eq_true rfl, Nat.le_of_ble_eq_true rfl⟩ (fun v_ Γ_ hp_ => ?_)
  obtain ⟨rfl, rfl⟩ := hp_
  show eZ x E _ [eMac E c, rs] 9 [some (.ref c.a), some (.int w), some (.int v), none] [.int (eB (eBt w 0 3))] 0 0
  refine z_ldcw C dX1_setsTo_9 rfl q1000 ?_
  refine z_callSNX (As := [.int (eB (eBt w 0 3)), .int (-1000001)]) (rest := []) (Δ := [eMac E c, rs]) [] [0, 1] 2 (m_need hl E (eBt w 0 3) (-1000001)) C dX1_setsTo_12 rfl rfl rfl q1001 q1002 q49 q1003 (by decide +kernel) rfl (ePm 2 rfl (by decide +kernel)) rfl rfl ⟨Nat.le_of_ble_eq_true rfl, Nat.le_of_ble_eq_true rfl⟩ (Nat.le_trans eS0 (Nat.le_of_ble_eq_true rfl)) ⟨Nat.le_of_ble_eq_true rfl, Nat.le_of_ble_eq_true rfl⟩ (fun q_ En_ Γ_ hx_ => ?_) (fun v_ Γ_ hp_ => ?_)
  · obtain ⟨hb, rfl, r1, r2, rfl⟩ := hx_
    show eY x E _ [eRfB E q_ (-1000001) r1 r2, eMac E c, rs] 12 [some (.ref c.a), some (.int w), some (.int v), none] [] q_ 1 7
    subst hQ_
    exact z_out (Γ := [eRfB E q_ (-1000001) r1 r2, eMac E c]) C hT (by decide) (eIn (i := 0) rfl List.mem_cons_self) (show eCl[6]? = some _ from rfl) (Nat.le_of_ble_eq_true rfl) (Nat.le_of_ble_eq_true rfl) ⟨_, by rw [gSets, if_neg (by rw [hb]; decide)], rfl, r1, r2, rfl⟩
  obtain ⟨hb, rfl, rfl⟩ := hp_
  show eZ x E _ [eMac E c, rs] 15 [some (.ref c.a), some (.int w), some (.int v), none] [] 1 7
  refine z_iload_n C dX1_setsTo_15 rfl rfl ?_
  refine z_i2l (v := v.toInt64) C dX1_setsTo_16 rfl ?_
  refine z_iload_n C dX1_setsTo_17 rfl rfl ?_
  suffices J_ : eZ x E Q_ [eMac E c, rs] 31 [some (.ref c.a), some (.int w), some (.int v), none] [.long (if w = 0 ∨ w = 1 then 1 else 0), .long v.toInt64] 1 7 by
    refine z_if_eq 26 C dX1_setsTo_18 (by decide) (fun h1 => ?_) (fun h1 => ?_)
    · refine z_lconst (v := 1) C dX1_setsTo_26 (by decide) ?_
      refine z_goto 31 C dX1_setsTo_27 (by decide) ?_
      refine z_isv (w := .long (if w = 0 ∨ w = 1 then 1 else 0)) (by rw [if_pos (Or.inl h1)]) ?_
      exact J_
    · refine z_iload_n C dX1_setsTo_21 rfl rfl ?_
      refine z_iconst (v := 1) C dX1_setsTo_22 (by decide) ?_
      refine z_icmp_ne 30 C dX1_setsTo_23 (by decide) (fun h2 => ?_) (fun h2 => ?_)
      · refine z_lconst (v := 0) C dX1_setsTo_30 (by decide) ?_
        refine z_isv (w := .long (if w = 0 ∨ w = 1 then 1 else 0)) (by rw [if_neg (fun h => h.elim h1 h2)]) ?_
        exact J_
      · refine z_lconst (v := 1) C dX1_setsTo_26 (by decide) ?_
        refine z_goto 31 C dX1_setsTo_27 (by decide) ?_
        refine z_isv (w := .long (if w = 0 ∨ w = 1 then 1 else 0)) (by rw [if_pos (Or.inr h2)]) ?_
        exact J_
  refine z_iload_n C dX1_setsTo_31 rfl rfl ?_
  suffices J_ : eZ x E Q_ [eMac E c, rs] 49 [some (.ref c.a), some (.int w), some (.int v), none] [.long (if w = 0 ∨ w = 3 then 8 else 9), .long (if w = 0 ∨ w = 1 then 1 else 0), .long v.toInt64] 1 7 by
    refine z_if_eq 40 C dX1_setsTo_32 (by decide) (fun h1 => ?_) (fun h1 => ?_)
    · refine z_ldc2 C dX1_setsTo_40 rfl q1268 ?_
      refine z_goto 49 C dX1_setsTo_43 (by decide) ?_
      refine z_isv (w := .long (if w = 0 ∨ w = 3 then 8 else 9)) (by rw [if_pos (Or.inl h1)]) ?_
      exact J_
    · refine z_iload_n C dX1_setsTo_35 rfl rfl ?_
      refine z_iconst (v := 3) C dX1_setsTo_36 (by decide) ?_
      refine z_icmp_ne 46 C dX1_setsTo_37 (by decide) (fun h2 => ?_) (fun h2 => ?_)
      · refine z_ldc2 C dX1_setsTo_46 rfl q1269 ?_
        refine z_isv (w := .long (if w = 0 ∨ w = 3 then 8 else 9)) (by rw [if_neg (fun h => h.elim h1 h2)]) ?_
        exact J_
      · refine z_ldc2 C dX1_setsTo_40 rfl q1268 ?_
        refine z_goto 49 C dX1_setsTo_43 (by decide) ?_
        refine z_isv (w := .long (if w = 0 ∨ w = 3 then 8 else 9)) (by rw [if_pos (Or.inr h2)]) ?_
        exact J_
  refine z_callSN (As := [.long v.toInt64, .long (if w = 0 ∨ w = 1 then 1 else 0), .long (if w = 0 ∨ w = 3 then 8 else 9)]) (rest := []) (Δ := [eMac E c, rs]) [] [0, 1] 3 (m_bt hl E v (if w = 0 ∨ w = 1 then 1 else 0) (if w = 0 ∨ w = 3 then 8 else 9) (if w = 0 ∨ w = 1 then 1 else 0) (if w = 0 ∨ w = 3 then 8 else 9) (by split <;> rfl) (by split <;> rfl)) C dX1_setsTo_49 rfl rfl rfl q991 q987 q49 q988 (by decide +kernel) rfl (ePm 2 rfl (by decide +kernel)) rfl rfl ⟨Nat.le_of_ble_eq_true rfl, Nat.le_of_ble_eq_true rfl⟩ (Nat.le_trans eS0 (Nat.le_of_ble_eq_true rfl)) ⟨Nat.le_of_ble_eq_true rfl, Nat.le_of_ble_eq_true rfl⟩ (fun v_ Γ_ hp_ => ?_)
  obtain ⟨rfl, rfl⟩ := hp_
  show eZ x E _ [eMac E c, rs] 52 [some (.ref c.a), some (.int w), some (.int v), none] [.int (eB (eBt v (if w = 0 ∨ w = 1 then 1 else 0) (if w = 0 ∨ w = 3 then 8 else 9)))] 1 7
  refine z_ldcw C dX1_setsTo_52 rfl q1000 ?_
  refine z_callSNX (As := [.int (eB (eBt v (if w = 0 ∨ w = 1 then 1 else 0) (if w = 0 ∨ w = 3 then 8 else 9))), .int (-1000001)]) (rest := []) (Δ := [eMac E c, rs]) [] [0, 1] 2 (m_need hl E (eBt v (if w = 0 ∨ w = 1 then 1 else 0) (if w = 0 ∨ w = 3 then 8 else 9)) (-1000001)) C dX1_setsTo_55 rfl rfl rfl q1001 q1002 q49 q1003 (by decide +kernel) rfl (ePm 2 rfl (by decide +kernel)) rfl rfl ⟨Nat.le_of_ble_eq_true rfl, Nat.le_of_ble_eq_true rfl⟩ (Nat.le_trans eS0 (Nat.le_of_ble_eq_true rfl)) ⟨Nat.le_of_ble_eq_true rfl, Nat.le_of_ble_eq_true rfl⟩ (fun q_ En_ Γ_ hx_ => ?_) (fun v_ Γ_ hp_ => ?_)
  · obtain ⟨hb2, rfl, r1, r2, rfl⟩ := hx_
    show eY x E _ [eRfB E q_ (-1000001) r1 r2, eMac E c, rs] 55 [some (.ref c.a), some (.int w), some (.int v), none] [] q_ 2 14
    subst hQ_
    exact z_out (Γ := [eRfB E q_ (-1000001) r1 r2, eMac E c]) C hT (by decide) (eIn (i := 0) rfl List.mem_cons_self) (show eCl[6]? = some _ from rfl) (Nat.le_of_ble_eq_true rfl) (Nat.le_of_ble_eq_true rfl) ⟨_, by rw [gSets, if_pos hb, if_neg (by rw [hb2]; decide)], rfl, r1, r2, rfl⟩
  obtain ⟨hb2, rfl, rfl⟩ := hp_
  show eZ x E _ [eMac E c, rs] 58 [some (.ref c.a), some (.int w), some (.int v), none] [] 2 14
  have hb3 := hb
  obtain ⟨N, hN, rfl⟩ := eBt_N hb
  have hN4 : N < 4 := Nat.lt_succ_of_le hN
  have hnN : nN (nI N) = N := nN_nI (by omega)
  refine z_cut 0 (bs := [eO c.a 1 [.ref c.la, .ref c.ca, .ref c.ba, .ref c.sa, .int c.u.tk, .int c.u.cm, .int c.u.dk, .int c.u.co, .int c.u.wt, .int c.u.lk], eAL E c.la c.lq c.lm (lA c.lns), eLans 0 c.lns, eAL E c.ca c.cq c.cm (kA c.crs), eCrs c.crs, eLL c.ba c.bm (bX c.bk), eIA E c.sa 4 c.st]) rfl eMac_cut rfl ?_
  show eZ x E _ [eO c.a 1 [.ref c.la, .ref c.ca, .ref c.ba, .ref c.sa, .int c.u.tk, .int c.u.cm, .int c.u.dk, .int c.u.co, .int c.u.wt, .int c.u.lk], eAL E c.la c.lq c.lm (lA c.lns), eLans 0 c.lns, eAL E c.ca c.cq c.cm (kA c.crs), eCrs c.crs, eLL c.ba c.bm (bX c.bk), eIA E c.sa 4 c.st, rs] 58 [some (.ref c.a), some (.int (nI N)), some (.int v), none] [] 2 14
  refine z_aload_n C dX1_setsTo_58 rfl rfl ?_
  refine z_get eK1 0 3 C dX1_setsTo_59 rfl rfl q313 (eSame1 rfl) (by decide) rfl ?_
  refine z_iload_n C dX1_setsTo_62 rfl rfl ?_
  refine z_iald (m := N) (v := c.st N) 6 C dX1_setsTo_63 rfl rfl (by omega) (by decide) rfl ?_
  refine z_istore_n (L2 := [some (.ref c.a), some (.int (nI N)), some (.int v), some (.int (c.st N))]) C dX1_setsTo_64 rfl (Nat.le_of_ble_eq_true rfl) rfl ?_
  refine z_aload_n C dX1_setsTo_65 rfl rfl ?_
  refine z_get eK1 0 3 C dX1_setsTo_66 rfl rfl q313 (eSame1 rfl) (by decide) rfl ?_
  refine z_iload_n C dX1_setsTo_69 rfl rfl ?_
  refine z_iload_n C dX1_setsTo_70 rfl rfl ?_
  refine z_iast (m := N) (Γ2 := [eO c.a 1 [.ref c.la, .ref c.ca, .ref c.ba, .ref c.sa, .int c.u.tk, .int c.u.cm, .int c.u.dk, .int c.u.co, .int c.u.wt, .int c.u.lk], eAL E c.la c.lq c.lm (lA c.lns), eLans 0 c.lns, eAL E c.ca c.cq c.cm (kA c.crs), eCrs c.crs, eLL c.ba c.bm (bX c.bk), eIA E c.sa 4 (upd c.st (nN (nI N)) v), rs]) 6 C dX1_setsTo_71 rfl rfl (by omega) (by decide) (by rw [hnN]; rfl) ?_
  refine z_iload_n C dX1_setsTo_72 rfl rfl ?_
  have hla2 : lA c.lns = lA c.lns := rfl
  refine z_pick (Γ' := [eO c.a 1 [.ref c.la, .ref c.ca, .ref c.ba, .ref c.sa, .int c.u.tk, .int c.u.cm, .int c.u.dk, .int c.u.co, .int c.u.wt, .int c.u.lk], eAL E c.la c.lq c.lm (lA c.lns), eLans 0 c.lns, eAL E c.ca c.cq c.cm (kA c.crs), eCrs c.crs, eLL c.ba c.bm (bX c.bk), eIA E c.sa 4 (upd c.st (nN (nI N)) v), rs]) [0, 1, 2, 3, 4, 5, 6, 7] (ePm 8 rfl (by decide +kernel)) rfl ?_
  refine z_join 7 (b := eMac E (c.a, c.la, c.lq, c.lm, c.lns, c.ca, c.cq, c.cm, c.crs, c.ba, c.bm, c.bk, c.sa, (upd c.st (nN (nI N)) v), c.u)) (by rw [eMac_cut]; rfl) rfl ?_
  show eZ x E _ [eMac E (c.a, c.la, c.lq, c.lm, c.lns, c.ca, c.cq, c.cm, c.crs, c.ba, c.bm, c.bk, c.sa, (upd c.st (nN (nI N)) v), c.u), rs] 73 [some (.ref c.a), some (.int (nI N)), some (.int v), some (.int (c.st N))] [.int (c.st N)] 2 14
  refine z_pick (Γ' := [eMac E (c.a, c.la, c.lq, c.lm, c.lns, c.ca, c.cq, c.cm, c.crs, c.ba, c.bm, c.bk, c.sa, (upd c.st (nN (nI N)) v), c.u), rs]) [0, 1] (ePm 2 rfl (by decide +kernel)) rfl ?_
  subst hQ_
  refine z_X ?_
  exact z_ret (Γ := [eMac E (c.a, c.la, c.lq, c.lm, c.lns, c.ca, c.cq, c.cm, c.crs, c.ba, c.bm, c.bk, c.sa, (upd c.st (nN (nI N)) v), c.u)]) C dX1_setsTo_73 rfl rfl (Nat.le_of_ble_eq_true rfl) (Nat.le_of_ble_eq_true rfl) ⟨c.st N, Cm.abs (c.a, c.la, c.lq, c.lm, c.lns, c.ca, c.cq, c.cm, c.crs, c.ba, c.bm, c.bk, c.sa, (upd c.st (nN (nI N)) v), c.u), (c.a, c.la, c.lq, c.lm, c.lns, c.ca, c.cq, c.cm, c.crs, c.ba, c.bm, c.bk, c.sa, (upd c.st (nN (nI N)) v), c.u), by rw [gSets, if_pos hb3, if_pos hb2, hnN]; rfl, rfl, rfl, rfl, rfl, rfl⟩

set_option maxHeartbeats 4000000 in
theorem m_runs {l : Launch} (hl : l.stackTraces = false) (E : eEn) (c : Cm) (S : List (Nat × Enr)) (hok : gOk c.abs) (hS : eBkS c S) (n : Int32) : eMetX l E yX1_runs (ws_ yX1_runs cX1_runs 4 (some .int)) ({ frames := 11, cells := 2 + 17 * gM n, slots := 14 + 88 * gM n, locals := 217 }) [.ref c.a, .int n] [eMac E c, eSto S] (fun w Γ => ∃ r A2 c2 S2, gRuns c.abs n = .inr (r, A2) ∧ w = some (.int r) ∧ Γ = [eMac E c2, eSto S2] ∧ c2.abs = A2 ∧ c2.a = c.a ∧ eBkS c2 S2 ∧ ∀ z ∈ S, z ∈ S2) (fun q En Γ => ∃ code, gRuns c.abs n = .inl code ∧ En = RX6 ∧ ∃ r1 r2, Γ = [eRfB E q code r1 r2, eMac E c, eSto S]) := by
  refine eStartX (cc := cX1_runs) (nL := 4) (L := [some (.ref c.a), some (.int n), none, none]) hl (by decide) rfl (List.forall_mem_cons.mpr ⟨rfl, (List.forall_mem_cons.mpr ⟨rfl, (fun _ h => absurd h List.not_mem_nil)⟩)⟩) (Nat.le_of_ble_eq_true rfl) ?_
  intro x rs C hT
  show eZ x E (eQX x E (fun w Γ => ∃ r A2 c2 S2, gRuns c.abs n = .inr (r, A2) ∧ w = some (.int r) ∧ Γ = [eMac E c2, eSto S2] ∧ c2.abs = A2 ∧ c2.a = c.a ∧ eBkS c2 S2 ∧ ∀ z ∈ S, z ∈ S2) (fun q En Γ => ∃ code, gRuns c.abs n = .inl code ∧ En = RX6 ∧ ∃ r1 r2, Γ = [eRfB E q code r1 r2, eMac E c, eSto S]) rs) [eMac E c, eSto S, rs] 0 [some (.ref c.a), some (.int n), none, none] [] 0 0
  generalize hQ_ : eQX x E (fun w Γ => ∃ r A2 c2 S2, gRuns c.abs n = .inr (r, A2) ∧ w = some (.int r) ∧ Γ = [eMac E c2, eSto S2] ∧ c2.abs = A2 ∧ c2.a = c.a ∧ eBkS c2 S2 ∧ ∀ z ∈ S, z ∈ S2) (fun q En Γ => ∃ code, gRuns c.abs n = .inl code ∧ En = RX6 ∧ ∃ r1 r2, Γ = [eRfB E q code r1 r2, eMac E c, eSto S]) rs = Q_
  refine z_iload_n C dX1_runs_0 rfl rfl ?_
  refine z_i2l (v := n.toInt64) C dX1_runs_1 rfl ?_
  refine z_lconst (v := 1) C dX1_runs_2 (by decide) ?_
  refine z_ldc2 C dX1_runs_3 rfl q1070 ?_
  refine z_callSN (As := [.long n.toInt64, .long 1, .long 50]) (rest := []) (Δ := [eMac E c, eSto S, rs]) [] [0, 1, 2] 3 (m_bt hl E n 1 50 1 50 (by decide) (by decide)) C dX1_runs_6 rfl rfl rfl q991 q987 q49 q988 (by decide +kernel) rfl (ePm 3 rfl (by decide +kernel)) rfl rfl ⟨Nat.le_of_ble_eq_true rfl, Nat.le_of_ble_eq_true rfl⟩ (Nat.le_trans eS0 (Nat.le_of_ble_eq_true rfl)) ⟨Nat.le_of_ble_eq_true rfl, Nat.le_of_ble_eq_true rfl⟩ (fun v_ Γ_ hp_ => ?_)
  obtain ⟨rfl, rfl⟩ := hp_
  show eZ x E _ [eMac E c, eSto S, rs] 9 [some (.ref c.a), some (.int n), none, none] [.int (eB (eBt n 1 50))] 0 0
  refine z_ldcw C dX1_runs_9 rfl q1000 ?_
  refine z_callSNX (As := [.int (eB (eBt n 1 50)), .int (-1000001)]) (rest := []) (Δ := [eMac E c, eSto S, rs]) [] [0, 1, 2] 2 (m_need hl E (eBt n 1 50) (-1000001)) C dX1_runs_12 rfl rfl rfl q1001 q1002 q49 q1003 (by decide +kernel) rfl (ePm 3 rfl (by decide +kernel)) rfl rfl ⟨Nat.le_of_ble_eq_true rfl, Nat.le_of_ble_eq_true rfl⟩ (Nat.le_trans eS0 (Nat.le_of_ble_eq_true rfl)) ⟨by show _ ≤ 2 + 17 * gM n; (try dsimp only); omega, by show _ ≤ 14 + 88 * gM n; (try dsimp only); omega⟩ (fun q_ En_ Γ_ hx_ => ?_) (fun v_ Γ_ hp_ => ?_)
  · obtain ⟨hb, rfl, r1, r2, rfl⟩ := hx_
    show eY x E _ [eRfB E q_ (-1000001) r1 r2, eMac E c, eSto S, rs] 12 [some (.ref c.a), some (.int n), none, none] [] q_ 1 7
    subst hQ_
    exact z_out (Γ := [eRfB E q_ (-1000001) r1 r2, eMac E c, eSto S]) C hT (by decide) (eIn (i := 0) rfl List.mem_cons_self) (show eCl[6]? = some _ from rfl) (by show _ ≤ 2 + 17 * gM n; (try dsimp only); omega) (by show _ ≤ 14 + 88 * gM n; (try dsimp only); omega) ⟨_, by rw [gRuns, if_neg (by rw [hb]; decide)], rfl, r1, r2, rfl⟩
  obtain ⟨hb, rfl, rfl⟩ := hp_
  show eZ x E _ [eMac E c, eSto S, rs] 15 [some (.ref c.a), some (.int n), none, none] [] 1 7
  have hM : gM n = nN n := if_pos hb
  have hM50 := gM_le n
  rw [hM] at hM50
  have hn : n = nI (nN n) := nI_nN (Int32.le_trans (by decide) (of_decide_eq_true hb).1)
  refine z_cut 0 (bs := [eO c.a 1 [.ref c.la, .ref c.ca, .ref c.ba, .ref c.sa, .int c.u.tk, .int c.u.cm, .int c.u.dk, .int c.u.co, .int c.u.wt, .int c.u.lk], eAL E c.la c.lq c.lm (lA c.lns), eLans 0 c.lns, eAL E c.ca c.cq c.cm (kA c.crs), eCrs c.crs, eLL c.ba c.bm (bX c.bk), eIA E c.sa 4 c.st]) rfl eMac_cut rfl ?_
  show eZ x E _ [eO c.a 1 [.ref c.la, .ref c.ca, .ref c.ba, .ref c.sa, .int c.u.tk, .int c.u.cm, .int c.u.dk, .int c.u.co, .int c.u.wt, .int c.u.lk], eAL E c.la c.lq c.lm (lA c.lns), eLans 0 c.lns, eAL E c.ca c.cq c.cm (kA c.crs), eCrs c.crs, eLL c.ba c.bm (bX c.bk), eIA E c.sa 4 c.st, eSto S, rs] 15 [some (.ref c.a), some (.int n), none, none] [] 1 7
  refine z_aload_n C dX1_runs_15 rfl rfl ?_
  refine z_get eK1 0 4 C dX1_runs_16 rfl rfl q315 (eSame1 rfl) (by decide) rfl ?_
  refine z_iload_n C dX1_runs_19 rfl rfl ?_
  refine z_iadd (w := c.u.tk + n) C dX1_runs_20 rfl ?_
  refine z_sipush (v := 9999) C dX1_runs_21 (by decide) ?_
  suffices J_ : eZ x E Q_ [eO c.a 1 [.ref c.la, .ref c.ca, .ref c.ba, .ref c.sa, .int c.u.tk, .int c.u.cm, .int c.u.dk, .int c.u.co, .int c.u.wt, .int c.u.lk], eAL E c.la c.lq c.lm (lA c.lns), eLans 0 c.lns, eAL E c.ca c.cq c.cm (kA c.crs), eCrs c.crs, eLL c.ba c.bm (bX c.bk), eIA E c.sa 4 c.st, eSto S, rs] 32 [some (.ref c.a), some (.int n), none, none] [.int (eB (decide (c.u.tk + n ≤ 9999)))] 1 7 by
    refine z_icmp_gt 31 C dX1_runs_24 (by decide) (fun h_ => ?_) (fun h_ => ?_)
    · refine z_iconst (v := 0) C dX1_runs_31 (by decide) ?_
      refine z_is (w := eB (decide (c.u.tk + n ≤ 9999))) (by rw [decide_eq_false (Int32.not_le.mpr h_)]; rfl) ?_
      exact J_
    · refine z_iconst (v := 1) C dX1_runs_27 (by decide) ?_
      refine z_goto 32 C dX1_runs_28 (by decide) ?_
      refine z_is (w := eB (decide (c.u.tk + n ≤ 9999))) (by rw [decide_eq_true (Int32.not_lt.mp h_)]; rfl) ?_
      exact J_
  refine z_pick (Γ' := [eO c.a 1 [.ref c.la, .ref c.ca, .ref c.ba, .ref c.sa, .int c.u.tk, .int c.u.cm, .int c.u.dk, .int c.u.co, .int c.u.wt, .int c.u.lk], eAL E c.la c.lq c.lm (lA c.lns), eLans 0 c.lns, eAL E c.ca c.cq c.cm (kA c.crs), eCrs c.crs, eLL c.ba c.bm (bX c.bk), eIA E c.sa 4 c.st, eSto S, rs]) [0, 1, 2, 3, 4, 5, 6, 7, 8] (ePm 9 rfl (by decide +kernel)) rfl ?_
  refine z_join 7 (b := eMac E c) eMac_cut.symm rfl ?_
  show eZ x E _ [eMac E c, eSto S, rs] 32 [some (.ref c.a), some (.int n), none, none] [.int (eB (decide (c.u.tk + n ≤ 9999)))] 1 7
  refine z_ldcw C dX1_runs_32 rfl q1031 ?_
  refine z_callSNX (As := [.int (eB (decide (c.u.tk + n ≤ 9999))), .int (-1000003)]) (rest := []) (Δ := [eMac E c, eSto S, rs]) [] [0, 1, 2] 2 (m_need hl E (decide (c.u.tk + n ≤ 9999)) (-1000003)) C dX1_runs_35 rfl rfl rfl q1001 q1002 q49 q1003 (by decide +kernel) rfl (ePm 3 rfl (by decide +kernel)) rfl rfl ⟨Nat.le_of_ble_eq_true rfl, Nat.le_of_ble_eq_true rfl⟩ (Nat.le_trans eS0 (Nat.le_of_ble_eq_true rfl)) ⟨by show _ ≤ 2 + 17 * gM n; (try dsimp only); omega, by show _ ≤ 14 + 88 * gM n; (try dsimp only); omega⟩ (fun q_ En_ Γ_ hx_ => ?_) (fun v_ Γ_ hp_ => ?_)
  · obtain ⟨hb2, rfl, r1, r2, rfl⟩ := hx_
    show eY x E _ [eRfB E q_ (-1000003) r1 r2, eMac E c, eSto S, rs] 35 [some (.ref c.a), some (.int n), none, none] [] q_ 2 14
    subst hQ_
    exact z_out (Γ := [eRfB E q_ (-1000003) r1 r2, eMac E c, eSto S]) C hT (by decide) (eIn (i := 0) rfl List.mem_cons_self) (show eCl[6]? = some _ from rfl) (by show _ ≤ 2 + 17 * gM n; (try dsimp only); omega) (by show _ ≤ 14 + 88 * gM n; (try dsimp only); omega) ⟨_, by rw [gRuns, if_pos hb, if_neg (show ¬ c.abs.u.tk + n ≤ 9999 from of_decide_eq_false hb2)], rfl, r1, r2, rfl⟩
  obtain ⟨hb2, rfl, rfl⟩ := hp_
  show eZ x E _ [eMac E c, eSto S, rs] 38 [some (.ref c.a), some (.int n), none, none] [] 2 14
  refine z_iconst (v := 0) C dX1_runs_38 (by decide) ?_
  refine z_istore_n (L2 := [some (.ref c.a), some (.int n), some (.int 0), none]) C dX1_runs_39 rfl (Nat.le_of_ble_eq_true rfl) rfl ?_
  refine z_iconst (v := 0) C dX1_runs_40 (by decide) ?_
  refine z_istore_n (L2 := [some (.ref c.a), some (.int n), some (.int 0), some (.int 0)]) C dX1_runs_41 rfl (Nat.le_of_ble_eq_true rfl) rfl ?_
  have K : ∀ (d i : Nat) (sm : Int32) (c1 : Cm) (S1 : List (Nat × Enr)), i + d = nN n → gOk c1.abs → eBkS c1 S1 → (∀ z ∈ S, z ∈ S1) → c1.a = c.a → gTicks d (sm, c1.abs) = gTicks (nN n) (0, c.abs) → eZ x E Q_ [eMac E c1, eSto S1, rs] 42 [some (.ref c.a), some (.int n), some (.int sm), some (.int (nI i))] [] (2 + 17 * i) (14 + 88 * i) := by
    intro d
    induction d with
    | zero =>
        intro i sm c1 S1 hi hok1 hS1 hSS ha hR
        obtain rfl : i = nN n := by omega
        refine z_iload_n C dX1_runs_42 rfl rfl ?_
        refine z_iload_n C dX1_runs_43 rfl rfl ?_
        refine z_icmp_ge 60 C dX1_runs_44 (by decide) (fun h1 => ?_) (fun h1 => ?_)
        · refine z_iload_n C dX1_runs_60 rfl rfl ?_
          subst hQ_
          refine z_X ?_
          exact z_ret (Γ := [eMac E c1, eSto S1]) C dX1_runs_61 rfl rfl (by show _ ≤ 2 + 17 * gM n; rw [hM]; omega) (by show _ ≤ 14 + 88 * gM n; rw [hM]; omega) ⟨_, _, c1, S1, by rw [gRuns, if_pos hb, if_pos (show c.abs.u.tk + n ≤ 9999 from of_decide_eq_true hb2), ← hR]; rfl, rfl, rfl, rfl, ha, hS1, hSS⟩
        · exact absurd (by rw [← hn]; exact Int32.le_refl _) h1
    | succ d ih =>
        intro i sm c1 S1 hi hok1 hS1 hSS ha hR
        refine z_iload_n C dX1_runs_42 rfl rfl ?_
        refine z_iload_n C dX1_runs_43 rfl rfl ?_
        refine z_icmp_ge 60 C dX1_runs_44 (by decide) (fun h1 => ?_) (fun h1 => ?_)
        · exact absurd h1 (by rw [hn]; exact nI_ge (by omega) (by omega))
        · refine z_iload_n C dX1_runs_47 rfl rfl ?_
          refine z_aload_n C dX1_runs_48 rfl rfl ?_
          refine z_isv (w := .ref c1.a) (by rw [ha]) ?_
          refine z_callV (r := (RX1, TX1, 10)) (As := []) (rest := [.int sm]) (Δ := [rs]) [0, 1] [2] 0 (m_tick hl E c1 S1 hok1 hS1) C dX1_runs_49 rfl rfl (eIn (i := 0) rfl eMac_mem) rfl rfl q1071 q1072 q1073 q50 q1074 (by decide +kernel) rfl (ePm 3 rfl (by decide +kernel)) rfl rfl ⟨Nat.le_of_ble_eq_true rfl, Nat.le_of_ble_eq_true rfl⟩ (Nat.le_trans (eSm rfl eS0) (Nat.le_of_ble_eq_true rfl)) ⟨by show _ ≤ 2 + 17 * gM n; rw [hM]; (try dsimp only); omega, by show _ ≤ 14 + 88 * gM n; rw [hM]; (try dsimp only); omega⟩ (fun v_ Γ_ hp_ => ?_)
          obtain ⟨c3, S3, rfl, rfl, habs3, ha3, hS3, hSS3⟩ := hp_
          show eZ x E _ [eMac E c3, eSto S3, rs] 52 [some (.ref c.a), some (.int n), some (.int sm), some (.int (nI i))] [.int ((gTick c1.abs).1), .int sm] ((2 + 17 * i) + 17) ((14 + 88 * i) + 88)
          refine z_iadd (w := sm + ((gTick c1.abs).1)) C dX1_runs_52 rfl ?_
          refine z_istore_n (L2 := [some (.ref c.a), some (.int n), some (.int (sm + ((gTick c1.abs).1))), some (.int (nI i))]) C dX1_runs_53 rfl (Nat.le_of_ble_eq_true rfl) rfl ?_
          refine z_iinc (v := nI (i + 1)) (L2 := [some (.ref c.a), some (.int n), some (.int (sm + ((gTick c1.abs).1))), some (.int (nI (i + 1)))]) C dX1_runs_54 rfl (nI_1 i) rfl ?_
          refine z_goto 42 C dX1_runs_57 (by decide) ?_
          refine z_wide (k' := 2 + 17 * (i + 1)) (n' := 14 + 88 * (i + 1)) (by (try dsimp only); omega) (by (try dsimp only); omega) ?_
          exact ih (i + 1) (sm + (gTick c1.abs).1) c3 S3 (by omega) (by rw [habs3]; exact gTick_ok hok1) hS3 (fun z hz => hSS3 z (hSS z hz)) (ha3.trans ha) (by rw [← hR, gTicks_succ, habs3])
  refine z_wide (k' := 2 + 17 * 0) (n' := 14 + 88 * 0) (by (try dsimp only); omega) (by (try dsimp only); omega) ?_
  exact K (nN n) 0 0 c S (by omega) hok hS (fun z h => h) rfl rfl

set_option maxHeartbeats 4000000 in
theorem m_cracked {l : Launch} (hl : l.stackTraces = false) (E : eEn) (c : Cm) (hok : gOk c.abs) : eMet l E yX1_cracked (ws_ yX1_cracked cX1_cracked 4 (some .int)) ({ frames := 3, cells := 1, slots := 4, locals := 53 }) [.ref c.a] [eMac E c] (fun w Γ => w = some (.int (gCks c.abs)) ∧ Γ = [eMac E c]) := by
  refine eStart (cc := cX1_cracked) (nL := 4) (L := [some (.ref c.a), none, none, none]) hl (by decide) rfl (List.forall_mem_cons.mpr ⟨rfl, (fun _ h => absurd h List.not_mem_nil)⟩) (Nat.le_of_ble_eq_true rfl) ?_
  intro x rs C
  show eZ x E (eQ x E (fun w Γ => w = some (.int (gCks c.abs)) ∧ Γ = [eMac E c]) rs) [eMac E c, rs] 0 [some (.ref c.a), none, none, none] [] 0 0
  generalize hQ_ : eQ x E (fun w Γ => w = some (.int (gCks c.abs)) ∧ Γ = [eMac E c]) rs = Q_
  obtain ⟨hk1, hk2, hk3, hk4, hk5, hk6⟩ := hok
  have hl4 : c.lns.length = 4 := by have h : (lV c.lns).length = 4 := hk1; rw [List.length_map] at h; exact h
  have hl8 : ∀ l ∈ c.lns, l.zs.length ≤ 8 := fun l hl => by have h : (qG l.zs).length ≤ 8 := hk2 _ (List.mem_map.mpr ⟨l, hl, rfl⟩); rw [List.length_map] at h; exact h
  have hc6 : c.crs.length = 6 := by have h : (c.crs.map Prod.snd).length = 6 := hk3; rw [List.length_map] at h; exact h
  have hb10 : c.bk.length ≤ 10 := by have h : (c.bk.map Prod.snd).length ≤ 10 := hk4; rw [List.length_map] at h; exact h
  have hla : (lA c.lns).length ≤ 10 := by rw [List.length_map]; omega
  have hka : (kA c.crs).length ≤ 10 := by rw [List.length_map]; omega
  have hl4b : ∃ l0 l1 l2 l3, c.lns = [l0, l1, l2, l3] := by
    rcases hx : c.lns with _ | ⟨l0, _ | ⟨l1, _ | ⟨l2, _ | ⟨l3, _ | ⟨l4, t⟩⟩⟩⟩⟩ <;> simp [hx] at hl4 <;> exact ⟨l0, l1, l2, l3, rfl⟩
  obtain ⟨l0, l1, l2, l3, hlns⟩ := hl4b
  have hz0 : l0.zs.length ≤ 8 := hl8 l0 (by rw [hlns]; simp)
  have hz1 : l1.zs.length ≤ 8 := hl8 l1 (by rw [hlns]; simp)
  have hz2 : l2.zs.length ≤ 8 := hl8 l2 (by rw [hlns]; simp)
  have hz3 : l3.zs.length ≤ 8 := hl8 l3 (by rw [hlns]; simp)
  refine z_cut 0 (bs := [eO c.a 1 [.ref c.la, .ref c.ca, .ref c.ba, .ref c.sa, .int c.u.tk, .int c.u.cm, .int c.u.dk, .int c.u.co, .int c.u.wt, .int c.u.lk], eAL E c.la c.lq c.lm [l0.a, l1.a, l2.a, l3.a], eLans 0 [l0, l1, l2, l3], eAL E c.ca c.cq c.cm (kA c.crs), eCrs c.crs, eLL c.ba c.bm (bX c.bk), eIA E c.sa 4 c.st]) rfl (by rw [eMac_cut, hlns]; rfl) rfl ?_
  show eZ x E _ [eO c.a 1 [.ref c.la, .ref c.ca, .ref c.ba, .ref c.sa, .int c.u.tk, .int c.u.cm, .int c.u.dk, .int c.u.co, .int c.u.wt, .int c.u.lk], eAL E c.la c.lq c.lm [l0.a, l1.a, l2.a, l3.a], eLans 0 [l0, l1, l2, l3], eAL E c.ca c.cq c.cm (kA c.crs), eCrs c.crs, eLL c.ba c.bm (bX c.bk), eIA E c.sa 4 c.st, rs] 0 [some (.ref c.a), none, none, none] [] 0 0
  refine z_pick (Γ' := [eAL E c.ca c.cq c.cm (kA c.crs), eCrs c.crs, eLL c.ba c.bm (bX c.bk), eIA E c.sa 4 c.st, eO c.a 1 [.ref c.la, .ref c.ca, .ref c.ba, .ref c.sa, .int c.u.tk, .int c.u.cm, .int c.u.dk, .int c.u.co, .int c.u.wt, .int c.u.lk], eAL E c.la c.lq c.lm [l0.a, l1.a, l2.a, l3.a], eLans 0 [l0, l1, l2, l3], rs]) [3, 4, 5, 6, 0, 1, 2, 7] (ePm 8 rfl (by decide +kernel)) rfl ?_
  refine z_join 4 (b := [eAL E c.ca c.cq c.cm (kA c.crs), eCrs c.crs, eLL c.ba c.bm (bX c.bk), eIA E c.sa 4 c.st].flatten) rfl rfl ?_
  show eZ x E _ [[eAL E c.ca c.cq c.cm (kA c.crs), eCrs c.crs, eLL c.ba c.bm (bX c.bk), eIA E c.sa 4 c.st].flatten, eO c.a 1 [.ref c.la, .ref c.ca, .ref c.ba, .ref c.sa, .int c.u.tk, .int c.u.cm, .int c.u.dk, .int c.u.co, .int c.u.wt, .int c.u.lk], eAL E c.la c.lq c.lm [l0.a, l1.a, l2.a, l3.a], eLans 0 [l0, l1, l2, l3], rs] 0 [some (.ref c.a), none, none, none] [] 0 0
  obtain ⟨W1, hW1⟩ : ∃ W_, W_ = [eAL E c.ca c.cq c.cm (kA c.crs), eCrs c.crs, eLL c.ba c.bm (bX c.bk), eIA E c.sa 4 c.st].flatten := ⟨_, rfl⟩
  refine z_go (Γ' := [W1, eO c.a 1 [.ref c.la, .ref c.ca, .ref c.ba, .ref c.sa, .int c.u.tk, .int c.u.cm, .int c.u.dk, .int c.u.co, .int c.u.wt, .int c.u.lk], eAL E c.la c.lq c.lm [l0.a, l1.a, l2.a, l3.a], eLans 0 [l0, l1, l2, l3], rs]) (by rw [← hW1]) ?_
  show eZ x E _ [W1, eO c.a 1 [.ref c.la, .ref c.ca, .ref c.ba, .ref c.sa, .int c.u.tk, .int c.u.cm, .int c.u.dk, .int c.u.co, .int c.u.wt, .int c.u.lk], eAL E c.la c.lq c.lm [l0.a, l1.a, l2.a, l3.a], eLans 0 [l0, l1, l2, l3], rs] 0 [some (.ref c.a), none, none, none] [] 0 0
  refine z_iconst (v := 0) C dX1_cracked_0 (by decide) ?_
  refine z_istore_n (L2 := [some (.ref c.a), some (.int 0), none, none]) C dX1_cracked_1 rfl (Nat.le_of_ble_eq_true rfl) rfl ?_
  refine z_aload_n C dX1_cracked_2 rfl rfl ?_
  refine z_get eK1 1 0 C dX1_cracked_3 rfl rfl q307 (eSame1 rfl) (by decide) rfl ?_
  refine z_callV (r := (RJ2, TJ2, 3)) (As := []) (rest := []) (Δ := [W1, eO c.a 1 [.ref c.la, .ref c.ca, .ref c.ba, .ref c.sa, .int c.u.tk, .int c.u.cm, .int c.u.dk, .int c.u.co, .int c.u.wt, .int c.u.lk], eLans 0 [l0, l1, l2, l3], rs]) [2] [0, 1, 3, 4] 0 (m_AL_iterator hl E c.la c.lq c.lm [l0.a, l1.a, l2.a, l3.a] (Nat.le_of_ble_eq_true rfl)) C dX1_cracked_6 rfl rfl (eIn (i := 2) rfl eAL_mem) rfl rfl q429 q430 q431 q53 q432 (by decide +kernel) rfl (ePm 5 rfl (by decide +kernel)) rfl rfl ⟨Nat.le_of_ble_eq_true rfl, Nat.le_of_ble_eq_true rfl⟩ (Nat.le_trans eS0 (Nat.le_of_ble_eq_true rfl)) ⟨Nat.le_of_ble_eq_true rfl, Nat.le_of_ble_eq_true rfl⟩ (fun v_ Γ_ hp_ => ?_)
  obtain ⟨it1, rfl, rfl⟩ := hp_
  show eZ x E _ [eO it1 16 [.int 0, .int (-1), .int c.lm, .ref c.la], eAL E c.la c.lq c.lm [l0.a, l1.a, l2.a, l3.a], W1, eO c.a 1 [.ref c.la, .ref c.ca, .ref c.ba, .ref c.sa, .int c.u.tk, .int c.u.cm, .int c.u.dk, .int c.u.co, .int c.u.wt, .int c.u.lk], eLans 0 [l0, l1, l2, l3], rs] 9 [some (.ref c.a), some (.int 0), none, none] [.ref it1] 1 4
  refine z_astore_n (L2 := [some (.ref c.a), some (.int 0), some (.ref it1), none]) C dX1_cracked_9 rfl (Nat.le_of_ble_eq_true rfl) rfl ?_
  refine z_cut 4 (bs := [eLans 0 [], eLans 0 [l0, l1, l2, l3]]) rfl (by simp [eLans_nil]) rfl ?_
  show eZ x E _ [eO it1 16 [.int 0, .int (-1), .int c.lm, .ref c.la], eAL E c.la c.lq c.lm [l0.a, l1.a, l2.a, l3.a], W1, eO c.a 1 [.ref c.la, .ref c.ca, .ref c.ba, .ref c.sa, .int c.u.tk, .int c.u.cm, .int c.u.dk, .int c.u.co, .int c.u.wt, .int c.u.lk], eLans 0 [], eLans 0 [l0, l1, l2, l3], rs] 10 [some (.ref c.a), some (.int 0), some (.ref it1), none] [] 1 4
  refine z_aload_n C dX1_cracked_10 rfl rfl ?_
  refine z_callF (r := (RJ13, TJ13, 4)) (As := []) (rest := []) (Δ := [W1, eO c.a 1 [.ref c.la, .ref c.ca, .ref c.ba, .ref c.sa, .int c.u.tk, .int c.u.cm, .int c.u.dk, .int c.u.co, .int c.u.wt, .int c.u.lk], eLans 0 [], eLans 0 [l0, l1, l2, l3], rs]) [0, 1] [2, 3, 4, 5, 6] 0 (m_AItr_hasNext hl E it1 c.la c.lq c.lm (-1) [l0.a, l1.a, l2.a, l3.a] (Nat.le_of_ble_eq_true rfl) 0 (Nat.le_of_ble_eq_true rfl)) C dX1_cracked_11 rfl rfl (eIn (i := 0) rfl List.mem_cons_self) rfl rfl C.2.2.2.2.2.2.2.1.2.2.2.2.1.1 q455 q476 q474 q68 q478 (by decide +kernel) rfl (ePm 7 rfl (by decide +kernel)) rfl rfl ⟨Nat.le_of_ble_eq_true rfl, Nat.le_of_ble_eq_true rfl⟩ (Nat.le_trans eS0 (Nat.le_of_ble_eq_true rfl)) ⟨Nat.le_of_ble_eq_true rfl, Nat.le_of_ble_eq_true rfl⟩ (fun v_ Γ_ hp_ => ?_)
  obtain ⟨rfl, rfl⟩ := hp_
  show eZ x E _ [eO it1 16 [.int (nI 0), .int (-1), .int c.lm, .ref c.la], eAL E c.la c.lq c.lm [l0.a, l1.a, l2.a, l3.a], W1, eO c.a 1 [.ref c.la, .ref c.ca, .ref c.ba, .ref c.sa, .int c.u.tk, .int c.u.cm, .int c.u.dk, .int c.u.co, .int c.u.wt, .int c.u.lk], eLans 0 [], eLans 0 [l0, l1, l2, l3], rs] 16 [some (.ref c.a), some (.int 0), some (.ref it1), none] [.int (eB (decide (0 < [l0.a, l1.a, l2.a, l3.a].length)))] 1 4
  refine z_if_eq_B 39 C dX1_cracked_16 (by decide) (fun h_ => absurd h_ (by simp)) (fun h_ => ?_)
  refine z_aload_n C dX1_cracked_19 rfl rfl ?_
  refine z_callF (r := (RJ13, TJ13, 4)) (As := []) (rest := []) (Δ := [W1, eO c.a 1 [.ref c.la, .ref c.ca, .ref c.ba, .ref c.sa, .int c.u.tk, .int c.u.cm, .int c.u.dk, .int c.u.co, .int c.u.wt, .int c.u.lk], eLans 0 [], eLans 0 [l0, l1, l2, l3], rs]) [0, 1] [2, 3, 4, 5, 6] 0 (m_AItr_next hl E it1 c.la c.lq c.lm (-1) [l0.a, l1.a, l2.a, l3.a] (Nat.le_of_ble_eq_true rfl) 0 l0.a rfl) C dX1_cracked_20 rfl rfl (eIn (i := 0) rfl List.mem_cons_self) rfl rfl C.2.2.2.2.2.2.2.1.2.2.2.2.1.2.1 q489 q797 q795 q68 q799 (by decide +kernel) rfl (ePm 7 rfl (by decide +kernel)) rfl rfl ⟨Nat.le_of_ble_eq_true rfl, Nat.le_of_ble_eq_true rfl⟩ (Nat.le_trans eS0 (Nat.le_of_ble_eq_true rfl)) ⟨Nat.le_of_ble_eq_true rfl, Nat.le_of_ble_eq_true rfl⟩ (fun v_ Γ_ hp_ => ?_)
  obtain ⟨rfl, rfl⟩ := hp_
  show eZ x E _ [eO it1 16 [.int (nI (0 + 1)), .int (nI 0), .int c.lm, .ref c.la], eAL E c.la c.lq c.lm [l0.a, l1.a, l2.a, l3.a], W1, eO c.a 1 [.ref c.la, .ref c.ca, .ref c.ba, .ref c.sa, .int c.u.tk, .int c.u.cm, .int c.u.dk, .int c.u.co, .int c.u.wt, .int c.u.lk], eLans 0 [], eLans 0 [l0, l1, l2, l3], rs] 25 [some (.ref c.a), some (.int 0), some (.ref it1), none] [.ref l0.a] 1 4
  refine z_cut 5 (bs := [eO l0.a 2 [.int (nI 0), .ref l0.qa, .int l0.v.li, .int l0.v.tu, .int l0.v.st, .int l0.v.gd, .int l0.v.ck], eLL l0.qa l0.m (qX l0.zs), qE l0.zs, eLans 1 [l1, l2, l3]]) rfl (by rw [eLans_cons, eLan_cut]; simp) rfl ?_
  show eZ x E _ [eO it1 16 [.int (nI (0 + 1)), .int (nI 0), .int c.lm, .ref c.la], eAL E c.la c.lq c.lm [l0.a, l1.a, l2.a, l3.a], W1, eO c.a 1 [.ref c.la, .ref c.ca, .ref c.ba, .ref c.sa, .int c.u.tk, .int c.u.cm, .int c.u.dk, .int c.u.co, .int c.u.wt, .int c.u.lk], eLans 0 [], eO l0.a 2 [.int (nI 0), .ref l0.qa, .int l0.v.li, .int l0.v.tu, .int l0.v.st, .int l0.v.gd, .int l0.v.ck], eLL l0.qa l0.m (qX l0.zs), qE l0.zs, eLans 1 [l1, l2, l3], rs] 25 [some (.ref c.a), some (.int 0), some (.ref it1), none] [.ref l0.a] 1 4
  refine z_castE C dX1_cracked_25 (eIn (i := 5) rfl List.mem_cons_self) (show eCl[2]? = some _ from rfl) rfl q162 ?_
  refine z_astore_n (L2 := [some (.ref c.a), some (.int 0), some (.ref it1), some (.ref l0.a)]) C dX1_cracked_28 rfl (Nat.le_of_ble_eq_true rfl) rfl ?_
  refine z_iload_n C dX1_cracked_29 rfl rfl ?_
  refine z_aload_n C dX1_cracked_30 rfl rfl ?_
  refine z_getN eK2 5 6 C dX1_cracked_31 rfl rfl q188 (eSame1 rfl) (by decide) rfl ?_
  refine z_iadd (w := 0 + l0.v.ck) C dX1_cracked_34 rfl ?_
  refine z_istore_n (L2 := [some (.ref c.a), some (.int (0 + l0.v.ck)), some (.ref it1), some (.ref l0.a)]) C dX1_cracked_35 rfl (Nat.le_of_ble_eq_true rfl) rfl ?_
  refine z_goto 10 C dX1_cracked_36 (by decide) ?_
  refine z_aload_n C dX1_cracked_10 rfl rfl ?_
  refine z_forget (L' := [some (.ref c.a), some (.int (0 + l0.v.ck)), some (.ref it1), none]) ⟨Or.inr rfl, Or.inr rfl, Or.inr rfl, Or.inl rfl, trivial⟩ ?_
  refine z_pick (Γ' := [eLans 0 [], eO l0.a 2 [.int (nI 0), .ref l0.qa, .int l0.v.li, .int l0.v.tu, .int l0.v.st, .int l0.v.gd, .int l0.v.ck], eLL l0.qa l0.m (qX l0.zs), qE l0.zs, eO it1 16 [.int (nI (0 + 1)), .int (nI 0), .int c.lm, .ref c.la], eAL E c.la c.lq c.lm [l0.a, l1.a, l2.a, l3.a], W1, eO c.a 1 [.ref c.la, .ref c.ca, .ref c.ba, .ref c.sa, .int c.u.tk, .int c.u.cm, .int c.u.dk, .int c.u.co, .int c.u.wt, .int c.u.lk], eLans 1 [l1, l2, l3], rs]) [4, 5, 6, 7, 0, 1, 2, 3, 8, 9] (ePm 10 rfl (by decide +kernel)) rfl ?_
  refine z_join 4 (b := eLans 0 [l0]) (by simp [eLans_cons, eLans_nil, eLan]) rfl ?_
  show eZ x E _ [eLans 0 [l0], eO it1 16 [.int (nI (0 + 1)), .int (nI 0), .int c.lm, .ref c.la], eAL E c.la c.lq c.lm [l0.a, l1.a, l2.a, l3.a], W1, eO c.a 1 [.ref c.la, .ref c.ca, .ref c.ba, .ref c.sa, .int c.u.tk, .int c.u.cm, .int c.u.dk, .int c.u.co, .int c.u.wt, .int c.u.lk], eLans 1 [l1, l2, l3], rs] 11 [some (.ref c.a), some (.int (0 + l0.v.ck)), some (.ref it1), none] [.ref it1] 1 4
  refine z_callF (r := (RJ13, TJ13, 4)) (As := []) (rest := []) (Δ := [eLans 0 [l0], W1, eO c.a 1 [.ref c.la, .ref c.ca, .ref c.ba, .ref c.sa, .int c.u.tk, .int c.u.cm, .int c.u.dk, .int c.u.co, .int c.u.wt, .int c.u.lk], eLans 1 [l1, l2, l3], rs]) [1, 2] [0, 3, 4, 5, 6] 0 (m_AItr_hasNext hl E it1 c.la c.lq c.lm (nI 0) [l0.a, l1.a, l2.a, l3.a] (Nat.le_of_ble_eq_true rfl) 1 (Nat.le_of_ble_eq_true rfl)) C dX1_cracked_11 rfl rfl (eIn (i := 1) rfl List.mem_cons_self) rfl rfl C.2.2.2.2.2.2.2.1.2.2.2.2.1.1 q455 q476 q474 q68 q478 (by decide +kernel) rfl (ePm 7 rfl (by decide +kernel)) rfl rfl ⟨Nat.le_of_ble_eq_true rfl, Nat.le_of_ble_eq_true rfl⟩ (Nat.le_trans eS0 (Nat.le_of_ble_eq_true rfl)) ⟨Nat.le_of_ble_eq_true rfl, Nat.le_of_ble_eq_true rfl⟩ (fun v_ Γ_ hp_ => ?_)
  obtain ⟨rfl, rfl⟩ := hp_
  show eZ x E _ [eO it1 16 [.int (nI 1), .int (nI 0), .int c.lm, .ref c.la], eAL E c.la c.lq c.lm [l0.a, l1.a, l2.a, l3.a], eLans 0 [l0], W1, eO c.a 1 [.ref c.la, .ref c.ca, .ref c.ba, .ref c.sa, .int c.u.tk, .int c.u.cm, .int c.u.dk, .int c.u.co, .int c.u.wt, .int c.u.lk], eLans 1 [l1, l2, l3], rs] 16 [some (.ref c.a), some (.int (0 + l0.v.ck)), some (.ref it1), none] [.int (eB (decide (1 < [l0.a, l1.a, l2.a, l3.a].length)))] 1 4
  refine z_if_eq_B 39 C dX1_cracked_16 (by decide) (fun h_ => absurd h_ (by simp)) (fun h_ => ?_)
  refine z_aload_n C dX1_cracked_19 rfl rfl ?_
  refine z_callF (r := (RJ13, TJ13, 4)) (As := []) (rest := []) (Δ := [eLans 0 [l0], W1, eO c.a 1 [.ref c.la, .ref c.ca, .ref c.ba, .ref c.sa, .int c.u.tk, .int c.u.cm, .int c.u.dk, .int c.u.co, .int c.u.wt, .int c.u.lk], eLans 1 [l1, l2, l3], rs]) [0, 1] [2, 3, 4, 5, 6] 0 (m_AItr_next hl E it1 c.la c.lq c.lm (nI 0) [l0.a, l1.a, l2.a, l3.a] (Nat.le_of_ble_eq_true rfl) 1 l1.a rfl) C dX1_cracked_20 rfl rfl (eIn (i := 0) rfl List.mem_cons_self) rfl rfl C.2.2.2.2.2.2.2.1.2.2.2.2.1.2.1 q489 q797 q795 q68 q799 (by decide +kernel) rfl (ePm 7 rfl (by decide +kernel)) rfl rfl ⟨Nat.le_of_ble_eq_true rfl, Nat.le_of_ble_eq_true rfl⟩ (Nat.le_trans eS0 (Nat.le_of_ble_eq_true rfl)) ⟨Nat.le_of_ble_eq_true rfl, Nat.le_of_ble_eq_true rfl⟩ (fun v_ Γ_ hp_ => ?_)
  obtain ⟨rfl, rfl⟩ := hp_
  show eZ x E _ [eO it1 16 [.int (nI (1 + 1)), .int (nI 1), .int c.lm, .ref c.la], eAL E c.la c.lq c.lm [l0.a, l1.a, l2.a, l3.a], eLans 0 [l0], W1, eO c.a 1 [.ref c.la, .ref c.ca, .ref c.ba, .ref c.sa, .int c.u.tk, .int c.u.cm, .int c.u.dk, .int c.u.co, .int c.u.wt, .int c.u.lk], eLans 1 [l1, l2, l3], rs] 25 [some (.ref c.a), some (.int (0 + l0.v.ck)), some (.ref it1), none] [.ref l1.a] 1 4
  refine z_cut 5 (bs := [eO l1.a 2 [.int (nI 1), .ref l1.qa, .int l1.v.li, .int l1.v.tu, .int l1.v.st, .int l1.v.gd, .int l1.v.ck], eLL l1.qa l1.m (qX l1.zs), qE l1.zs, eLans 2 [l2, l3]]) rfl (by rw [eLans_cons, eLan_cut]; simp) rfl ?_
  show eZ x E _ [eO it1 16 [.int (nI (1 + 1)), .int (nI 1), .int c.lm, .ref c.la], eAL E c.la c.lq c.lm [l0.a, l1.a, l2.a, l3.a], eLans 0 [l0], W1, eO c.a 1 [.ref c.la, .ref c.ca, .ref c.ba, .ref c.sa, .int c.u.tk, .int c.u.cm, .int c.u.dk, .int c.u.co, .int c.u.wt, .int c.u.lk], eO l1.a 2 [.int (nI 1), .ref l1.qa, .int l1.v.li, .int l1.v.tu, .int l1.v.st, .int l1.v.gd, .int l1.v.ck], eLL l1.qa l1.m (qX l1.zs), qE l1.zs, eLans 2 [l2, l3], rs] 25 [some (.ref c.a), some (.int (0 + l0.v.ck)), some (.ref it1), none] [.ref l1.a] 1 4
  refine z_castE C dX1_cracked_25 (eIn (i := 5) rfl List.mem_cons_self) (show eCl[2]? = some _ from rfl) rfl q162 ?_
  refine z_astore_n (L2 := [some (.ref c.a), some (.int (0 + l0.v.ck)), some (.ref it1), some (.ref l1.a)]) C dX1_cracked_28 rfl (Nat.le_of_ble_eq_true rfl) rfl ?_
  refine z_iload_n C dX1_cracked_29 rfl rfl ?_
  refine z_aload_n C dX1_cracked_30 rfl rfl ?_
  refine z_getN eK2 5 6 C dX1_cracked_31 rfl rfl q188 (eSame1 rfl) (by decide) rfl ?_
  refine z_iadd (w := (0 + l0.v.ck) + l1.v.ck) C dX1_cracked_34 rfl ?_
  refine z_istore_n (L2 := [some (.ref c.a), some (.int ((0 + l0.v.ck) + l1.v.ck)), some (.ref it1), some (.ref l1.a)]) C dX1_cracked_35 rfl (Nat.le_of_ble_eq_true rfl) rfl ?_
  refine z_goto 10 C dX1_cracked_36 (by decide) ?_
  refine z_aload_n C dX1_cracked_10 rfl rfl ?_
  refine z_forget (L' := [some (.ref c.a), some (.int ((0 + l0.v.ck) + l1.v.ck)), some (.ref it1), none]) ⟨Or.inr rfl, Or.inr rfl, Or.inr rfl, Or.inl rfl, trivial⟩ ?_
  refine z_pick (Γ' := [eLans 0 [l0], eO l1.a 2 [.int (nI 1), .ref l1.qa, .int l1.v.li, .int l1.v.tu, .int l1.v.st, .int l1.v.gd, .int l1.v.ck], eLL l1.qa l1.m (qX l1.zs), qE l1.zs, eO it1 16 [.int (nI (1 + 1)), .int (nI 1), .int c.lm, .ref c.la], eAL E c.la c.lq c.lm [l0.a, l1.a, l2.a, l3.a], W1, eO c.a 1 [.ref c.la, .ref c.ca, .ref c.ba, .ref c.sa, .int c.u.tk, .int c.u.cm, .int c.u.dk, .int c.u.co, .int c.u.wt, .int c.u.lk], eLans 2 [l2, l3], rs]) [2, 5, 6, 7, 0, 1, 3, 4, 8, 9] (ePm 10 rfl (by decide +kernel)) rfl ?_
  refine z_join 4 (b := eLans 0 [l0, l1]) (by simp [eLans_cons, eLans_nil, eLan]) rfl ?_
  show eZ x E _ [eLans 0 [l0, l1], eO it1 16 [.int (nI (1 + 1)), .int (nI 1), .int c.lm, .ref c.la], eAL E c.la c.lq c.lm [l0.a, l1.a, l2.a, l3.a], W1, eO c.a 1 [.ref c.la, .ref c.ca, .ref c.ba, .ref c.sa, .int c.u.tk, .int c.u.cm, .int c.u.dk, .int c.u.co, .int c.u.wt, .int c.u.lk], eLans 2 [l2, l3], rs] 11 [some (.ref c.a), some (.int ((0 + l0.v.ck) + l1.v.ck)), some (.ref it1), none] [.ref it1] 1 4
  refine z_callF (r := (RJ13, TJ13, 4)) (As := []) (rest := []) (Δ := [eLans 0 [l0, l1], W1, eO c.a 1 [.ref c.la, .ref c.ca, .ref c.ba, .ref c.sa, .int c.u.tk, .int c.u.cm, .int c.u.dk, .int c.u.co, .int c.u.wt, .int c.u.lk], eLans 2 [l2, l3], rs]) [1, 2] [0, 3, 4, 5, 6] 0 (m_AItr_hasNext hl E it1 c.la c.lq c.lm (nI 1) [l0.a, l1.a, l2.a, l3.a] (Nat.le_of_ble_eq_true rfl) 2 (Nat.le_of_ble_eq_true rfl)) C dX1_cracked_11 rfl rfl (eIn (i := 1) rfl List.mem_cons_self) rfl rfl C.2.2.2.2.2.2.2.1.2.2.2.2.1.1 q455 q476 q474 q68 q478 (by decide +kernel) rfl (ePm 7 rfl (by decide +kernel)) rfl rfl ⟨Nat.le_of_ble_eq_true rfl, Nat.le_of_ble_eq_true rfl⟩ (Nat.le_trans eS0 (Nat.le_of_ble_eq_true rfl)) ⟨Nat.le_of_ble_eq_true rfl, Nat.le_of_ble_eq_true rfl⟩ (fun v_ Γ_ hp_ => ?_)
  obtain ⟨rfl, rfl⟩ := hp_
  show eZ x E _ [eO it1 16 [.int (nI 2), .int (nI 1), .int c.lm, .ref c.la], eAL E c.la c.lq c.lm [l0.a, l1.a, l2.a, l3.a], eLans 0 [l0, l1], W1, eO c.a 1 [.ref c.la, .ref c.ca, .ref c.ba, .ref c.sa, .int c.u.tk, .int c.u.cm, .int c.u.dk, .int c.u.co, .int c.u.wt, .int c.u.lk], eLans 2 [l2, l3], rs] 16 [some (.ref c.a), some (.int ((0 + l0.v.ck) + l1.v.ck)), some (.ref it1), none] [.int (eB (decide (2 < [l0.a, l1.a, l2.a, l3.a].length)))] 1 4
  refine z_if_eq_B 39 C dX1_cracked_16 (by decide) (fun h_ => absurd h_ (by simp)) (fun h_ => ?_)
  refine z_aload_n C dX1_cracked_19 rfl rfl ?_
  refine z_callF (r := (RJ13, TJ13, 4)) (As := []) (rest := []) (Δ := [eLans 0 [l0, l1], W1, eO c.a 1 [.ref c.la, .ref c.ca, .ref c.ba, .ref c.sa, .int c.u.tk, .int c.u.cm, .int c.u.dk, .int c.u.co, .int c.u.wt, .int c.u.lk], eLans 2 [l2, l3], rs]) [0, 1] [2, 3, 4, 5, 6] 0 (m_AItr_next hl E it1 c.la c.lq c.lm (nI 1) [l0.a, l1.a, l2.a, l3.a] (Nat.le_of_ble_eq_true rfl) 2 l2.a rfl) C dX1_cracked_20 rfl rfl (eIn (i := 0) rfl List.mem_cons_self) rfl rfl C.2.2.2.2.2.2.2.1.2.2.2.2.1.2.1 q489 q797 q795 q68 q799 (by decide +kernel) rfl (ePm 7 rfl (by decide +kernel)) rfl rfl ⟨Nat.le_of_ble_eq_true rfl, Nat.le_of_ble_eq_true rfl⟩ (Nat.le_trans eS0 (Nat.le_of_ble_eq_true rfl)) ⟨Nat.le_of_ble_eq_true rfl, Nat.le_of_ble_eq_true rfl⟩ (fun v_ Γ_ hp_ => ?_)
  obtain ⟨rfl, rfl⟩ := hp_
  show eZ x E _ [eO it1 16 [.int (nI (2 + 1)), .int (nI 2), .int c.lm, .ref c.la], eAL E c.la c.lq c.lm [l0.a, l1.a, l2.a, l3.a], eLans 0 [l0, l1], W1, eO c.a 1 [.ref c.la, .ref c.ca, .ref c.ba, .ref c.sa, .int c.u.tk, .int c.u.cm, .int c.u.dk, .int c.u.co, .int c.u.wt, .int c.u.lk], eLans 2 [l2, l3], rs] 25 [some (.ref c.a), some (.int ((0 + l0.v.ck) + l1.v.ck)), some (.ref it1), none] [.ref l2.a] 1 4
  refine z_cut 5 (bs := [eO l2.a 2 [.int (nI 2), .ref l2.qa, .int l2.v.li, .int l2.v.tu, .int l2.v.st, .int l2.v.gd, .int l2.v.ck], eLL l2.qa l2.m (qX l2.zs), qE l2.zs, eLans 3 [l3]]) rfl (by rw [eLans_cons, eLan_cut]; simp) rfl ?_
  show eZ x E _ [eO it1 16 [.int (nI (2 + 1)), .int (nI 2), .int c.lm, .ref c.la], eAL E c.la c.lq c.lm [l0.a, l1.a, l2.a, l3.a], eLans 0 [l0, l1], W1, eO c.a 1 [.ref c.la, .ref c.ca, .ref c.ba, .ref c.sa, .int c.u.tk, .int c.u.cm, .int c.u.dk, .int c.u.co, .int c.u.wt, .int c.u.lk], eO l2.a 2 [.int (nI 2), .ref l2.qa, .int l2.v.li, .int l2.v.tu, .int l2.v.st, .int l2.v.gd, .int l2.v.ck], eLL l2.qa l2.m (qX l2.zs), qE l2.zs, eLans 3 [l3], rs] 25 [some (.ref c.a), some (.int ((0 + l0.v.ck) + l1.v.ck)), some (.ref it1), none] [.ref l2.a] 1 4
  refine z_castE C dX1_cracked_25 (eIn (i := 5) rfl List.mem_cons_self) (show eCl[2]? = some _ from rfl) rfl q162 ?_
  refine z_astore_n (L2 := [some (.ref c.a), some (.int ((0 + l0.v.ck) + l1.v.ck)), some (.ref it1), some (.ref l2.a)]) C dX1_cracked_28 rfl (Nat.le_of_ble_eq_true rfl) rfl ?_
  refine z_iload_n C dX1_cracked_29 rfl rfl ?_
  refine z_aload_n C dX1_cracked_30 rfl rfl ?_
  refine z_getN eK2 5 6 C dX1_cracked_31 rfl rfl q188 (eSame1 rfl) (by decide) rfl ?_
  refine z_iadd (w := ((0 + l0.v.ck) + l1.v.ck) + l2.v.ck) C dX1_cracked_34 rfl ?_
  refine z_istore_n (L2 := [some (.ref c.a), some (.int (((0 + l0.v.ck) + l1.v.ck) + l2.v.ck)), some (.ref it1), some (.ref l2.a)]) C dX1_cracked_35 rfl (Nat.le_of_ble_eq_true rfl) rfl ?_
  refine z_goto 10 C dX1_cracked_36 (by decide) ?_
  refine z_aload_n C dX1_cracked_10 rfl rfl ?_
  refine z_forget (L' := [some (.ref c.a), some (.int (((0 + l0.v.ck) + l1.v.ck) + l2.v.ck)), some (.ref it1), none]) ⟨Or.inr rfl, Or.inr rfl, Or.inr rfl, Or.inl rfl, trivial⟩ ?_
  refine z_pick (Γ' := [eLans 0 [l0, l1], eO l2.a 2 [.int (nI 2), .ref l2.qa, .int l2.v.li, .int l2.v.tu, .int l2.v.st, .int l2.v.gd, .int l2.v.ck], eLL l2.qa l2.m (qX l2.zs), qE l2.zs, eO it1 16 [.int (nI (2 + 1)), .int (nI 2), .int c.lm, .ref c.la], eAL E c.la c.lq c.lm [l0.a, l1.a, l2.a, l3.a], W1, eO c.a 1 [.ref c.la, .ref c.ca, .ref c.ba, .ref c.sa, .int c.u.tk, .int c.u.cm, .int c.u.dk, .int c.u.co, .int c.u.wt, .int c.u.lk], eLans 3 [l3], rs]) [2, 5, 6, 7, 0, 1, 3, 4, 8, 9] (ePm 10 rfl (by decide +kernel)) rfl ?_
  refine z_join 4 (b := eLans 0 [l0, l1, l2]) (by simp [eLans_cons, eLans_nil, eLan]) rfl ?_
  show eZ x E _ [eLans 0 [l0, l1, l2], eO it1 16 [.int (nI (2 + 1)), .int (nI 2), .int c.lm, .ref c.la], eAL E c.la c.lq c.lm [l0.a, l1.a, l2.a, l3.a], W1, eO c.a 1 [.ref c.la, .ref c.ca, .ref c.ba, .ref c.sa, .int c.u.tk, .int c.u.cm, .int c.u.dk, .int c.u.co, .int c.u.wt, .int c.u.lk], eLans 3 [l3], rs] 11 [some (.ref c.a), some (.int (((0 + l0.v.ck) + l1.v.ck) + l2.v.ck)), some (.ref it1), none] [.ref it1] 1 4
  refine z_callF (r := (RJ13, TJ13, 4)) (As := []) (rest := []) (Δ := [eLans 0 [l0, l1, l2], W1, eO c.a 1 [.ref c.la, .ref c.ca, .ref c.ba, .ref c.sa, .int c.u.tk, .int c.u.cm, .int c.u.dk, .int c.u.co, .int c.u.wt, .int c.u.lk], eLans 3 [l3], rs]) [1, 2] [0, 3, 4, 5, 6] 0 (m_AItr_hasNext hl E it1 c.la c.lq c.lm (nI 2) [l0.a, l1.a, l2.a, l3.a] (Nat.le_of_ble_eq_true rfl) 3 (Nat.le_of_ble_eq_true rfl)) C dX1_cracked_11 rfl rfl (eIn (i := 1) rfl List.mem_cons_self) rfl rfl C.2.2.2.2.2.2.2.1.2.2.2.2.1.1 q455 q476 q474 q68 q478 (by decide +kernel) rfl (ePm 7 rfl (by decide +kernel)) rfl rfl ⟨Nat.le_of_ble_eq_true rfl, Nat.le_of_ble_eq_true rfl⟩ (Nat.le_trans eS0 (Nat.le_of_ble_eq_true rfl)) ⟨Nat.le_of_ble_eq_true rfl, Nat.le_of_ble_eq_true rfl⟩ (fun v_ Γ_ hp_ => ?_)
  obtain ⟨rfl, rfl⟩ := hp_
  show eZ x E _ [eO it1 16 [.int (nI 3), .int (nI 2), .int c.lm, .ref c.la], eAL E c.la c.lq c.lm [l0.a, l1.a, l2.a, l3.a], eLans 0 [l0, l1, l2], W1, eO c.a 1 [.ref c.la, .ref c.ca, .ref c.ba, .ref c.sa, .int c.u.tk, .int c.u.cm, .int c.u.dk, .int c.u.co, .int c.u.wt, .int c.u.lk], eLans 3 [l3], rs] 16 [some (.ref c.a), some (.int (((0 + l0.v.ck) + l1.v.ck) + l2.v.ck)), some (.ref it1), none] [.int (eB (decide (3 < [l0.a, l1.a, l2.a, l3.a].length)))] 1 4
  refine z_if_eq_B 39 C dX1_cracked_16 (by decide) (fun h_ => absurd h_ (by simp)) (fun h_ => ?_)
  refine z_aload_n C dX1_cracked_19 rfl rfl ?_
  refine z_callF (r := (RJ13, TJ13, 4)) (As := []) (rest := []) (Δ := [eLans 0 [l0, l1, l2], W1, eO c.a 1 [.ref c.la, .ref c.ca, .ref c.ba, .ref c.sa, .int c.u.tk, .int c.u.cm, .int c.u.dk, .int c.u.co, .int c.u.wt, .int c.u.lk], eLans 3 [l3], rs]) [0, 1] [2, 3, 4, 5, 6] 0 (m_AItr_next hl E it1 c.la c.lq c.lm (nI 2) [l0.a, l1.a, l2.a, l3.a] (Nat.le_of_ble_eq_true rfl) 3 l3.a rfl) C dX1_cracked_20 rfl rfl (eIn (i := 0) rfl List.mem_cons_self) rfl rfl C.2.2.2.2.2.2.2.1.2.2.2.2.1.2.1 q489 q797 q795 q68 q799 (by decide +kernel) rfl (ePm 7 rfl (by decide +kernel)) rfl rfl ⟨Nat.le_of_ble_eq_true rfl, Nat.le_of_ble_eq_true rfl⟩ (Nat.le_trans eS0 (Nat.le_of_ble_eq_true rfl)) ⟨Nat.le_of_ble_eq_true rfl, Nat.le_of_ble_eq_true rfl⟩ (fun v_ Γ_ hp_ => ?_)
  obtain ⟨rfl, rfl⟩ := hp_
  show eZ x E _ [eO it1 16 [.int (nI (3 + 1)), .int (nI 3), .int c.lm, .ref c.la], eAL E c.la c.lq c.lm [l0.a, l1.a, l2.a, l3.a], eLans 0 [l0, l1, l2], W1, eO c.a 1 [.ref c.la, .ref c.ca, .ref c.ba, .ref c.sa, .int c.u.tk, .int c.u.cm, .int c.u.dk, .int c.u.co, .int c.u.wt, .int c.u.lk], eLans 3 [l3], rs] 25 [some (.ref c.a), some (.int (((0 + l0.v.ck) + l1.v.ck) + l2.v.ck)), some (.ref it1), none] [.ref l3.a] 1 4
  refine z_cut 5 (bs := [eO l3.a 2 [.int (nI 3), .ref l3.qa, .int l3.v.li, .int l3.v.tu, .int l3.v.st, .int l3.v.gd, .int l3.v.ck], eLL l3.qa l3.m (qX l3.zs), qE l3.zs, eLans 4 []]) rfl (by rw [eLans_cons, eLan_cut]; simp) rfl ?_
  show eZ x E _ [eO it1 16 [.int (nI (3 + 1)), .int (nI 3), .int c.lm, .ref c.la], eAL E c.la c.lq c.lm [l0.a, l1.a, l2.a, l3.a], eLans 0 [l0, l1, l2], W1, eO c.a 1 [.ref c.la, .ref c.ca, .ref c.ba, .ref c.sa, .int c.u.tk, .int c.u.cm, .int c.u.dk, .int c.u.co, .int c.u.wt, .int c.u.lk], eO l3.a 2 [.int (nI 3), .ref l3.qa, .int l3.v.li, .int l3.v.tu, .int l3.v.st, .int l3.v.gd, .int l3.v.ck], eLL l3.qa l3.m (qX l3.zs), qE l3.zs, eLans 4 [], rs] 25 [some (.ref c.a), some (.int (((0 + l0.v.ck) + l1.v.ck) + l2.v.ck)), some (.ref it1), none] [.ref l3.a] 1 4
  refine z_castE C dX1_cracked_25 (eIn (i := 5) rfl List.mem_cons_self) (show eCl[2]? = some _ from rfl) rfl q162 ?_
  refine z_astore_n (L2 := [some (.ref c.a), some (.int (((0 + l0.v.ck) + l1.v.ck) + l2.v.ck)), some (.ref it1), some (.ref l3.a)]) C dX1_cracked_28 rfl (Nat.le_of_ble_eq_true rfl) rfl ?_
  refine z_iload_n C dX1_cracked_29 rfl rfl ?_
  refine z_aload_n C dX1_cracked_30 rfl rfl ?_
  refine z_getN eK2 5 6 C dX1_cracked_31 rfl rfl q188 (eSame1 rfl) (by decide) rfl ?_
  refine z_iadd (w := (((0 + l0.v.ck) + l1.v.ck) + l2.v.ck) + l3.v.ck) C dX1_cracked_34 rfl ?_
  refine z_istore_n (L2 := [some (.ref c.a), some (.int ((((0 + l0.v.ck) + l1.v.ck) + l2.v.ck) + l3.v.ck)), some (.ref it1), some (.ref l3.a)]) C dX1_cracked_35 rfl (Nat.le_of_ble_eq_true rfl) rfl ?_
  refine z_goto 10 C dX1_cracked_36 (by decide) ?_
  refine z_aload_n C dX1_cracked_10 rfl rfl ?_
  refine z_forget (L' := [some (.ref c.a), some (.int ((((0 + l0.v.ck) + l1.v.ck) + l2.v.ck) + l3.v.ck)), some (.ref it1), none]) ⟨Or.inr rfl, Or.inr rfl, Or.inr rfl, Or.inl rfl, trivial⟩ ?_
  refine z_pick (Γ' := [eLans 0 [l0, l1, l2], eO l3.a 2 [.int (nI 3), .ref l3.qa, .int l3.v.li, .int l3.v.tu, .int l3.v.st, .int l3.v.gd, .int l3.v.ck], eLL l3.qa l3.m (qX l3.zs), qE l3.zs, eO it1 16 [.int (nI (3 + 1)), .int (nI 3), .int c.lm, .ref c.la], eAL E c.la c.lq c.lm [l0.a, l1.a, l2.a, l3.a], W1, eO c.a 1 [.ref c.la, .ref c.ca, .ref c.ba, .ref c.sa, .int c.u.tk, .int c.u.cm, .int c.u.dk, .int c.u.co, .int c.u.wt, .int c.u.lk], eLans 4 [], rs]) [2, 5, 6, 7, 0, 1, 3, 4, 8, 9] (ePm 10 rfl (by decide +kernel)) rfl ?_
  refine z_join 4 (b := eLans 0 [l0, l1, l2, l3]) (by simp [eLans_cons, eLans_nil, eLan]) rfl ?_
  show eZ x E _ [eLans 0 [l0, l1, l2, l3], eO it1 16 [.int (nI (3 + 1)), .int (nI 3), .int c.lm, .ref c.la], eAL E c.la c.lq c.lm [l0.a, l1.a, l2.a, l3.a], W1, eO c.a 1 [.ref c.la, .ref c.ca, .ref c.ba, .ref c.sa, .int c.u.tk, .int c.u.cm, .int c.u.dk, .int c.u.co, .int c.u.wt, .int c.u.lk], eLans 4 [], rs] 11 [some (.ref c.a), some (.int ((((0 + l0.v.ck) + l1.v.ck) + l2.v.ck) + l3.v.ck)), some (.ref it1), none] [.ref it1] 1 4
  refine z_callF (r := (RJ13, TJ13, 4)) (As := []) (rest := []) (Δ := [eLans 0 [l0, l1, l2, l3], W1, eO c.a 1 [.ref c.la, .ref c.ca, .ref c.ba, .ref c.sa, .int c.u.tk, .int c.u.cm, .int c.u.dk, .int c.u.co, .int c.u.wt, .int c.u.lk], eLans 4 [], rs]) [1, 2] [0, 3, 4, 5, 6] 0 (m_AItr_hasNext hl E it1 c.la c.lq c.lm (nI 3) [l0.a, l1.a, l2.a, l3.a] (Nat.le_of_ble_eq_true rfl) 4 (Nat.le_of_ble_eq_true rfl)) C dX1_cracked_11 rfl rfl (eIn (i := 1) rfl List.mem_cons_self) rfl rfl C.2.2.2.2.2.2.2.1.2.2.2.2.1.1 q455 q476 q474 q68 q478 (by decide +kernel) rfl (ePm 7 rfl (by decide +kernel)) rfl rfl ⟨Nat.le_of_ble_eq_true rfl, Nat.le_of_ble_eq_true rfl⟩ (Nat.le_trans eS0 (Nat.le_of_ble_eq_true rfl)) ⟨Nat.le_of_ble_eq_true rfl, Nat.le_of_ble_eq_true rfl⟩ (fun v_ Γ_ hp_ => ?_)
  obtain ⟨rfl, rfl⟩ := hp_
  show eZ x E _ [eO it1 16 [.int (nI 4), .int (nI 3), .int c.lm, .ref c.la], eAL E c.la c.lq c.lm [l0.a, l1.a, l2.a, l3.a], eLans 0 [l0, l1, l2, l3], W1, eO c.a 1 [.ref c.la, .ref c.ca, .ref c.ba, .ref c.sa, .int c.u.tk, .int c.u.cm, .int c.u.dk, .int c.u.co, .int c.u.wt, .int c.u.lk], eLans 4 [], rs] 16 [some (.ref c.a), some (.int ((((0 + l0.v.ck) + l1.v.ck) + l2.v.ck) + l3.v.ck)), some (.ref it1), none] [.int (eB (decide (4 < [l0.a, l1.a, l2.a, l3.a].length)))] 1 4
  refine z_if_eq_B 39 C dX1_cracked_16 (by decide) (fun h_ => ?_) (fun h_ => absurd h_ (by simp))
  refine z_pick (Γ' := [eO it1 16 [.int (nI 4), .int (nI 3), .int c.lm, .ref c.la], eAL E c.la c.lq c.lm [l0.a, l1.a, l2.a, l3.a], eLans 0 [l0, l1, l2, l3], W1, eO c.a 1 [.ref c.la, .ref c.ca, .ref c.ba, .ref c.sa, .int c.u.tk, .int c.u.cm, .int c.u.dk, .int c.u.co, .int c.u.wt, .int c.u.lk], eLans 4 [], rs]) [0, 1, 2, 3, 4, 5, 6] (ePm 7 rfl (by decide +kernel)) rfl ?_
  refine z_drop ?_
  show eZ x E _ [eAL E c.la c.lq c.lm [l0.a, l1.a, l2.a, l3.a], eLans 0 [l0, l1, l2, l3], W1, eO c.a 1 [.ref c.la, .ref c.ca, .ref c.ba, .ref c.sa, .int c.u.tk, .int c.u.cm, .int c.u.dk, .int c.u.co, .int c.u.wt, .int c.u.lk], eLans 4 [], rs] 39 [some (.ref c.a), some (.int ((((0 + l0.v.ck) + l1.v.ck) + l2.v.ck) + l3.v.ck)), some (.ref it1), none] [] 1 4
  refine z_pick (Γ' := [eLans 4 [], eAL E c.la c.lq c.lm [l0.a, l1.a, l2.a, l3.a], eLans 0 [l0, l1, l2, l3], W1, eO c.a 1 [.ref c.la, .ref c.ca, .ref c.ba, .ref c.sa, .int c.u.tk, .int c.u.cm, .int c.u.dk, .int c.u.co, .int c.u.wt, .int c.u.lk], rs]) [4, 0, 1, 2, 3, 5] (ePm 6 rfl (by decide +kernel)) rfl ?_
  refine z_drop ?_
  show eZ x E _ [eAL E c.la c.lq c.lm [l0.a, l1.a, l2.a, l3.a], eLans 0 [l0, l1, l2, l3], W1, eO c.a 1 [.ref c.la, .ref c.ca, .ref c.ba, .ref c.sa, .int c.u.tk, .int c.u.cm, .int c.u.dk, .int c.u.co, .int c.u.wt, .int c.u.lk], rs] 39 [some (.ref c.a), some (.int ((((0 + l0.v.ck) + l1.v.ck) + l2.v.ck) + l3.v.ck)), some (.ref it1), none] [] 1 4
  refine z_cut 2 (bs := [eAL E c.ca c.cq c.cm (kA c.crs), eCrs c.crs, eLL c.ba c.bm (bX c.bk), eIA E c.sa 4 c.st]) rfl hW1 rfl ?_
  show eZ x E _ [eAL E c.la c.lq c.lm [l0.a, l1.a, l2.a, l3.a], eLans 0 [l0, l1, l2, l3], eAL E c.ca c.cq c.cm (kA c.crs), eCrs c.crs, eLL c.ba c.bm (bX c.bk), eIA E c.sa 4 c.st, eO c.a 1 [.ref c.la, .ref c.ca, .ref c.ba, .ref c.sa, .int c.u.tk, .int c.u.cm, .int c.u.dk, .int c.u.co, .int c.u.wt, .int c.u.lk], rs] 39 [some (.ref c.a), some (.int ((((0 + l0.v.ck) + l1.v.ck) + l2.v.ck) + l3.v.ck)), some (.ref it1), none] [] 1 4
  refine z_iload_n C dX1_cracked_39 rfl rfl ?_
  refine z_pick (Γ' := [eO c.a 1 [.ref c.la, .ref c.ca, .ref c.ba, .ref c.sa, .int c.u.tk, .int c.u.cm, .int c.u.dk, .int c.u.co, .int c.u.wt, .int c.u.lk], eAL E c.la c.lq c.lm [l0.a, l1.a, l2.a, l3.a], eLans 0 [l0, l1, l2, l3], eAL E c.ca c.cq c.cm (kA c.crs), eCrs c.crs, eLL c.ba c.bm (bX c.bk), eIA E c.sa 4 c.st, rs]) [6, 0, 1, 2, 3, 4, 5, 7] (ePm 8 rfl (by decide +kernel)) rfl ?_
  refine z_join 7 (b := eMac E c) (by symm; rw [eMac_cut (c := c), hlns]; rfl) rfl ?_
  show eZ x E _ [eMac E c, rs] 40 [some (.ref c.a), some (.int ((((0 + l0.v.ck) + l1.v.ck) + l2.v.ck) + l3.v.ck)), some (.ref it1), none] [.int ((((0 + l0.v.ck) + l1.v.ck) + l2.v.ck) + l3.v.ck)] 1 4
  refine z_pick (Γ' := [eMac E c, rs]) [0, 1] (ePm 2 rfl (by decide +kernel)) rfl ?_
  subst hQ_
  exact z_ret (Γ := [eMac E c]) C dX1_cracked_40 rfl rfl (Nat.le_of_ble_eq_true rfl) (Nat.le_of_ble_eq_true rfl) ⟨by rw [gCks, Cm.abs, hlns]; rfl, rfl⟩

set_option maxHeartbeats 4000000 in
theorem m_inQueues {l : Launch} (hl : l.stackTraces = false) (E : eEn) (c : Cm) (hok : gOk c.abs) : eMet l E yX1_inQueues (ws_ yX1_inQueues cX1_inQueues 4 (some .int)) ({ frames := 3, cells := 1, slots := 4, locals := 53 }) [.ref c.a] [eMac E c] (fun w Γ => w = some (.int (gInQ c.abs)) ∧ Γ = [eMac E c]) := by
  refine eStart (cc := cX1_inQueues) (nL := 4) (L := [some (.ref c.a), none, none, none]) hl (by decide) rfl (List.forall_mem_cons.mpr ⟨rfl, (fun _ h => absurd h List.not_mem_nil)⟩) (Nat.le_of_ble_eq_true rfl) ?_
  intro x rs C
  show eZ x E (eQ x E (fun w Γ => w = some (.int (gInQ c.abs)) ∧ Γ = [eMac E c]) rs) [eMac E c, rs] 0 [some (.ref c.a), none, none, none] [] 0 0
  generalize hQ_ : eQ x E (fun w Γ => w = some (.int (gInQ c.abs)) ∧ Γ = [eMac E c]) rs = Q_
  obtain ⟨hk1, hk2, hk3, hk4, hk5, hk6⟩ := hok
  have hl4 : c.lns.length = 4 := by have h : (lV c.lns).length = 4 := hk1; rw [List.length_map] at h; exact h
  have hl8 : ∀ l ∈ c.lns, l.zs.length ≤ 8 := fun l hl => by have h : (qG l.zs).length ≤ 8 := hk2 _ (List.mem_map.mpr ⟨l, hl, rfl⟩); rw [List.length_map] at h; exact h
  have hc6 : c.crs.length = 6 := by have h : (c.crs.map Prod.snd).length = 6 := hk3; rw [List.length_map] at h; exact h
  have hb10 : c.bk.length ≤ 10 := by have h : (c.bk.map Prod.snd).length ≤ 10 := hk4; rw [List.length_map] at h; exact h
  have hla : (lA c.lns).length ≤ 10 := by rw [List.length_map]; omega
  have hka : (kA c.crs).length ≤ 10 := by rw [List.length_map]; omega
  have hl4b : ∃ l0 l1 l2 l3, c.lns = [l0, l1, l2, l3] := by
    rcases hx : c.lns with _ | ⟨l0, _ | ⟨l1, _ | ⟨l2, _ | ⟨l3, _ | ⟨l4, t⟩⟩⟩⟩⟩ <;> simp [hx] at hl4 <;> exact ⟨l0, l1, l2, l3, rfl⟩
  obtain ⟨l0, l1, l2, l3, hlns⟩ := hl4b
  have hz0 : l0.zs.length ≤ 8 := hl8 l0 (by rw [hlns]; simp)
  have hz1 : l1.zs.length ≤ 8 := hl8 l1 (by rw [hlns]; simp)
  have hz2 : l2.zs.length ≤ 8 := hl8 l2 (by rw [hlns]; simp)
  have hz3 : l3.zs.length ≤ 8 := hl8 l3 (by rw [hlns]; simp)
  refine z_cut 0 (bs := [eO c.a 1 [.ref c.la, .ref c.ca, .ref c.ba, .ref c.sa, .int c.u.tk, .int c.u.cm, .int c.u.dk, .int c.u.co, .int c.u.wt, .int c.u.lk], eAL E c.la c.lq c.lm [l0.a, l1.a, l2.a, l3.a], eLans 0 [l0, l1, l2, l3], eAL E c.ca c.cq c.cm (kA c.crs), eCrs c.crs, eLL c.ba c.bm (bX c.bk), eIA E c.sa 4 c.st]) rfl (by rw [eMac_cut, hlns]; rfl) rfl ?_
  show eZ x E _ [eO c.a 1 [.ref c.la, .ref c.ca, .ref c.ba, .ref c.sa, .int c.u.tk, .int c.u.cm, .int c.u.dk, .int c.u.co, .int c.u.wt, .int c.u.lk], eAL E c.la c.lq c.lm [l0.a, l1.a, l2.a, l3.a], eLans 0 [l0, l1, l2, l3], eAL E c.ca c.cq c.cm (kA c.crs), eCrs c.crs, eLL c.ba c.bm (bX c.bk), eIA E c.sa 4 c.st, rs] 0 [some (.ref c.a), none, none, none] [] 0 0
  refine z_pick (Γ' := [eAL E c.ca c.cq c.cm (kA c.crs), eCrs c.crs, eLL c.ba c.bm (bX c.bk), eIA E c.sa 4 c.st, eO c.a 1 [.ref c.la, .ref c.ca, .ref c.ba, .ref c.sa, .int c.u.tk, .int c.u.cm, .int c.u.dk, .int c.u.co, .int c.u.wt, .int c.u.lk], eAL E c.la c.lq c.lm [l0.a, l1.a, l2.a, l3.a], eLans 0 [l0, l1, l2, l3], rs]) [3, 4, 5, 6, 0, 1, 2, 7] (ePm 8 rfl (by decide +kernel)) rfl ?_
  refine z_join 4 (b := [eAL E c.ca c.cq c.cm (kA c.crs), eCrs c.crs, eLL c.ba c.bm (bX c.bk), eIA E c.sa 4 c.st].flatten) rfl rfl ?_
  show eZ x E _ [[eAL E c.ca c.cq c.cm (kA c.crs), eCrs c.crs, eLL c.ba c.bm (bX c.bk), eIA E c.sa 4 c.st].flatten, eO c.a 1 [.ref c.la, .ref c.ca, .ref c.ba, .ref c.sa, .int c.u.tk, .int c.u.cm, .int c.u.dk, .int c.u.co, .int c.u.wt, .int c.u.lk], eAL E c.la c.lq c.lm [l0.a, l1.a, l2.a, l3.a], eLans 0 [l0, l1, l2, l3], rs] 0 [some (.ref c.a), none, none, none] [] 0 0
  obtain ⟨W1, hW1⟩ : ∃ W_, W_ = [eAL E c.ca c.cq c.cm (kA c.crs), eCrs c.crs, eLL c.ba c.bm (bX c.bk), eIA E c.sa 4 c.st].flatten := ⟨_, rfl⟩
  refine z_go (Γ' := [W1, eO c.a 1 [.ref c.la, .ref c.ca, .ref c.ba, .ref c.sa, .int c.u.tk, .int c.u.cm, .int c.u.dk, .int c.u.co, .int c.u.wt, .int c.u.lk], eAL E c.la c.lq c.lm [l0.a, l1.a, l2.a, l3.a], eLans 0 [l0, l1, l2, l3], rs]) (by rw [← hW1]) ?_
  show eZ x E _ [W1, eO c.a 1 [.ref c.la, .ref c.ca, .ref c.ba, .ref c.sa, .int c.u.tk, .int c.u.cm, .int c.u.dk, .int c.u.co, .int c.u.wt, .int c.u.lk], eAL E c.la c.lq c.lm [l0.a, l1.a, l2.a, l3.a], eLans 0 [l0, l1, l2, l3], rs] 0 [some (.ref c.a), none, none, none] [] 0 0
  refine z_iconst (v := 0) C dX1_inQueues_0 (by decide) ?_
  refine z_istore_n (L2 := [some (.ref c.a), some (.int 0), none, none]) C dX1_inQueues_1 rfl (Nat.le_of_ble_eq_true rfl) rfl ?_
  refine z_aload_n C dX1_inQueues_2 rfl rfl ?_
  refine z_get eK1 1 0 C dX1_inQueues_3 rfl rfl q307 (eSame1 rfl) (by decide) rfl ?_
  refine z_callV (r := (RJ2, TJ2, 3)) (As := []) (rest := []) (Δ := [W1, eO c.a 1 [.ref c.la, .ref c.ca, .ref c.ba, .ref c.sa, .int c.u.tk, .int c.u.cm, .int c.u.dk, .int c.u.co, .int c.u.wt, .int c.u.lk], eLans 0 [l0, l1, l2, l3], rs]) [2] [0, 1, 3, 4] 0 (m_AL_iterator hl E c.la c.lq c.lm [l0.a, l1.a, l2.a, l3.a] (Nat.le_of_ble_eq_true rfl)) C dX1_inQueues_6 rfl rfl (eIn (i := 2) rfl eAL_mem) rfl rfl q429 q430 q431 q53 q432 (by decide +kernel) rfl (ePm 5 rfl (by decide +kernel)) rfl rfl ⟨Nat.le_of_ble_eq_true rfl, Nat.le_of_ble_eq_true rfl⟩ (Nat.le_trans eS0 (Nat.le_of_ble_eq_true rfl)) ⟨Nat.le_of_ble_eq_true rfl, Nat.le_of_ble_eq_true rfl⟩ (fun v_ Γ_ hp_ => ?_)
  obtain ⟨it1, rfl, rfl⟩ := hp_
  show eZ x E _ [eO it1 16 [.int 0, .int (-1), .int c.lm, .ref c.la], eAL E c.la c.lq c.lm [l0.a, l1.a, l2.a, l3.a], W1, eO c.a 1 [.ref c.la, .ref c.ca, .ref c.ba, .ref c.sa, .int c.u.tk, .int c.u.cm, .int c.u.dk, .int c.u.co, .int c.u.wt, .int c.u.lk], eLans 0 [l0, l1, l2, l3], rs] 9 [some (.ref c.a), some (.int 0), none, none] [.ref it1] 1 4
  refine z_astore_n (L2 := [some (.ref c.a), some (.int 0), some (.ref it1), none]) C dX1_inQueues_9 rfl (Nat.le_of_ble_eq_true rfl) rfl ?_
  refine z_cut 4 (bs := [eLans 0 [], eLans 0 [l0, l1, l2, l3]]) rfl (by simp [eLans_nil]) rfl ?_
  show eZ x E _ [eO it1 16 [.int 0, .int (-1), .int c.lm, .ref c.la], eAL E c.la c.lq c.lm [l0.a, l1.a, l2.a, l3.a], W1, eO c.a 1 [.ref c.la, .ref c.ca, .ref c.ba, .ref c.sa, .int c.u.tk, .int c.u.cm, .int c.u.dk, .int c.u.co, .int c.u.wt, .int c.u.lk], eLans 0 [], eLans 0 [l0, l1, l2, l3], rs] 10 [some (.ref c.a), some (.int 0), some (.ref it1), none] [] 1 4
  refine z_aload_n C dX1_inQueues_10 rfl rfl ?_
  refine z_callF (r := (RJ13, TJ13, 4)) (As := []) (rest := []) (Δ := [W1, eO c.a 1 [.ref c.la, .ref c.ca, .ref c.ba, .ref c.sa, .int c.u.tk, .int c.u.cm, .int c.u.dk, .int c.u.co, .int c.u.wt, .int c.u.lk], eLans 0 [], eLans 0 [l0, l1, l2, l3], rs]) [0, 1] [2, 3, 4, 5, 6] 0 (m_AItr_hasNext hl E it1 c.la c.lq c.lm (-1) [l0.a, l1.a, l2.a, l3.a] (Nat.le_of_ble_eq_true rfl) 0 (Nat.le_of_ble_eq_true rfl)) C dX1_inQueues_11 rfl rfl (eIn (i := 0) rfl List.mem_cons_self) rfl rfl C.2.2.2.2.2.2.2.1.2.2.2.2.1.1 q455 q476 q474 q68 q478 (by decide +kernel) rfl (ePm 7 rfl (by decide +kernel)) rfl rfl ⟨Nat.le_of_ble_eq_true rfl, Nat.le_of_ble_eq_true rfl⟩ (Nat.le_trans eS0 (Nat.le_of_ble_eq_true rfl)) ⟨Nat.le_of_ble_eq_true rfl, Nat.le_of_ble_eq_true rfl⟩ (fun v_ Γ_ hp_ => ?_)
  obtain ⟨rfl, rfl⟩ := hp_
  show eZ x E _ [eO it1 16 [.int (nI 0), .int (-1), .int c.lm, .ref c.la], eAL E c.la c.lq c.lm [l0.a, l1.a, l2.a, l3.a], W1, eO c.a 1 [.ref c.la, .ref c.ca, .ref c.ba, .ref c.sa, .int c.u.tk, .int c.u.cm, .int c.u.dk, .int c.u.co, .int c.u.wt, .int c.u.lk], eLans 0 [], eLans 0 [l0, l1, l2, l3], rs] 16 [some (.ref c.a), some (.int 0), some (.ref it1), none] [.int (eB (decide (0 < [l0.a, l1.a, l2.a, l3.a].length)))] 1 4
  refine z_if_eq_B 42 C dX1_inQueues_16 (by decide) (fun h_ => absurd h_ (by simp)) (fun h_ => ?_)
  refine z_aload_n C dX1_inQueues_19 rfl rfl ?_
  refine z_callF (r := (RJ13, TJ13, 4)) (As := []) (rest := []) (Δ := [W1, eO c.a 1 [.ref c.la, .ref c.ca, .ref c.ba, .ref c.sa, .int c.u.tk, .int c.u.cm, .int c.u.dk, .int c.u.co, .int c.u.wt, .int c.u.lk], eLans 0 [], eLans 0 [l0, l1, l2, l3], rs]) [0, 1] [2, 3, 4, 5, 6] 0 (m_AItr_next hl E it1 c.la c.lq c.lm (-1) [l0.a, l1.a, l2.a, l3.a] (Nat.le_of_ble_eq_true rfl) 0 l0.a rfl) C dX1_inQueues_20 rfl rfl (eIn (i := 0) rfl List.mem_cons_self) rfl rfl C.2.2.2.2.2.2.2.1.2.2.2.2.1.2.1 q489 q797 q795 q68 q799 (by decide +kernel) rfl (ePm 7 rfl (by decide +kernel)) rfl rfl ⟨Nat.le_of_ble_eq_true rfl, Nat.le_of_ble_eq_true rfl⟩ (Nat.le_trans eS0 (Nat.le_of_ble_eq_true rfl)) ⟨Nat.le_of_ble_eq_true rfl, Nat.le_of_ble_eq_true rfl⟩ (fun v_ Γ_ hp_ => ?_)
  obtain ⟨rfl, rfl⟩ := hp_
  show eZ x E _ [eO it1 16 [.int (nI (0 + 1)), .int (nI 0), .int c.lm, .ref c.la], eAL E c.la c.lq c.lm [l0.a, l1.a, l2.a, l3.a], W1, eO c.a 1 [.ref c.la, .ref c.ca, .ref c.ba, .ref c.sa, .int c.u.tk, .int c.u.cm, .int c.u.dk, .int c.u.co, .int c.u.wt, .int c.u.lk], eLans 0 [], eLans 0 [l0, l1, l2, l3], rs] 25 [some (.ref c.a), some (.int 0), some (.ref it1), none] [.ref l0.a] 1 4
  refine z_cut 5 (bs := [eO l0.a 2 [.int (nI 0), .ref l0.qa, .int l0.v.li, .int l0.v.tu, .int l0.v.st, .int l0.v.gd, .int l0.v.ck], eLL l0.qa l0.m (qX l0.zs), qE l0.zs, eLans 1 [l1, l2, l3]]) rfl (by rw [eLans_cons, eLan_cut]; simp) rfl ?_
  show eZ x E _ [eO it1 16 [.int (nI (0 + 1)), .int (nI 0), .int c.lm, .ref c.la], eAL E c.la c.lq c.lm [l0.a, l1.a, l2.a, l3.a], W1, eO c.a 1 [.ref c.la, .ref c.ca, .ref c.ba, .ref c.sa, .int c.u.tk, .int c.u.cm, .int c.u.dk, .int c.u.co, .int c.u.wt, .int c.u.lk], eLans 0 [], eO l0.a 2 [.int (nI 0), .ref l0.qa, .int l0.v.li, .int l0.v.tu, .int l0.v.st, .int l0.v.gd, .int l0.v.ck], eLL l0.qa l0.m (qX l0.zs), qE l0.zs, eLans 1 [l1, l2, l3], rs] 25 [some (.ref c.a), some (.int 0), some (.ref it1), none] [.ref l0.a] 1 4
  refine z_castE C dX1_inQueues_25 (eIn (i := 5) rfl List.mem_cons_self) (show eCl[2]? = some _ from rfl) rfl q162 ?_
  refine z_astore_n (L2 := [some (.ref c.a), some (.int 0), some (.ref it1), some (.ref l0.a)]) C dX1_inQueues_28 rfl (Nat.le_of_ble_eq_true rfl) rfl ?_
  refine z_iload_n C dX1_inQueues_29 rfl rfl ?_
  refine z_aload_n C dX1_inQueues_30 rfl rfl ?_
  refine z_getN eK2 5 1 C dX1_inQueues_31 rfl rfl q173 (eSame1 rfl) (by decide) rfl ?_
  refine z_callV (r := (RJ4, TJ4, 4)) (As := []) (rest := [.int 0]) (Δ := [eO it1 16 [.int (nI (0 + 1)), .int (nI 0), .int c.lm, .ref c.la], eAL E c.la c.lq c.lm [l0.a, l1.a, l2.a, l3.a], W1, eO c.a 1 [.ref c.la, .ref c.ca, .ref c.ba, .ref c.sa, .int c.u.tk, .int c.u.cm, .int c.u.dk, .int c.u.co, .int c.u.wt, .int c.u.lk], eLans 0 [], eO l0.a 2 [.int (nI 0), .ref l0.qa, .int l0.v.li, .int l0.v.tu, .int l0.v.st, .int l0.v.gd, .int l0.v.ck], qE l0.zs, eLans 1 [l1, l2, l3], rs]) [6] [0, 1, 2, 3, 4, 5, 7, 8, 9] 0 (m_LL_size hl E l0.qa l0.m (qX l0.zs)) C dX1_inQueues_34 rfl rfl (eIn (i := 6) rfl eLL_mem) rfl rfl q1030 q471 q1945 q55 q472 (by decide +kernel) rfl (ePm 10 rfl (by decide +kernel)) rfl rfl ⟨Nat.le_of_ble_eq_true rfl, Nat.le_of_ble_eq_true rfl⟩ (Nat.le_trans (eSm rfl eS0) (Nat.le_of_ble_eq_true rfl)) ⟨Nat.le_of_ble_eq_true rfl, Nat.le_of_ble_eq_true rfl⟩ (fun v_ Γ_ hp_ => ?_)
  obtain ⟨rfl, rfl⟩ := hp_
  show eZ x E _ [eLL l0.qa l0.m (qX l0.zs), eO it1 16 [.int (nI (0 + 1)), .int (nI 0), .int c.lm, .ref c.la], eAL E c.la c.lq c.lm [l0.a, l1.a, l2.a, l3.a], W1, eO c.a 1 [.ref c.la, .ref c.ca, .ref c.ba, .ref c.sa, .int c.u.tk, .int c.u.cm, .int c.u.dk, .int c.u.co, .int c.u.wt, .int c.u.lk], eLans 0 [], eO l0.a 2 [.int (nI 0), .ref l0.qa, .int l0.v.li, .int l0.v.tu, .int l0.v.st, .int l0.v.gd, .int l0.v.ck], qE l0.zs, eLans 1 [l1, l2, l3], rs] 37 [some (.ref c.a), some (.int 0), some (.ref it1), some (.ref l0.a)] [.int (nI (qX l0.zs).length), .int 0] 1 4
  refine z_iadd (w := 0 + (nI (qX l0.zs).length)) C dX1_inQueues_37 rfl ?_
  refine z_istore_n (L2 := [some (.ref c.a), some (.int (0 + (nI (qX l0.zs).length))), some (.ref it1), some (.ref l0.a)]) C dX1_inQueues_38 rfl (Nat.le_of_ble_eq_true rfl) rfl ?_
  refine z_goto 10 C dX1_inQueues_39 (by decide) ?_
  refine z_forget (L' := [some (.ref c.a), some (.int (0 + (nI (qX l0.zs).length))), some (.ref it1), none]) ⟨Or.inr rfl, Or.inr rfl, Or.inr rfl, Or.inl rfl, trivial⟩ ?_
  refine z_pick (Γ' := [eLans 0 [], eO l0.a 2 [.int (nI 0), .ref l0.qa, .int l0.v.li, .int l0.v.tu, .int l0.v.st, .int l0.v.gd, .int l0.v.ck], eLL l0.qa l0.m (qX l0.zs), qE l0.zs, eO it1 16 [.int (nI (0 + 1)), .int (nI 0), .int c.lm, .ref c.la], eAL E c.la c.lq c.lm [l0.a, l1.a, l2.a, l3.a], W1, eO c.a 1 [.ref c.la, .ref c.ca, .ref c.ba, .ref c.sa, .int c.u.tk, .int c.u.cm, .int c.u.dk, .int c.u.co, .int c.u.wt, .int c.u.lk], eLans 1 [l1, l2, l3], rs]) [5, 6, 0, 7, 1, 2, 3, 4, 8, 9] (ePm 10 rfl (by decide +kernel)) rfl ?_
  refine z_join 4 (b := eLans 0 [l0]) (by simp [eLans_cons, eLans_nil, eLan]) rfl ?_
  show eZ x E _ [eLans 0 [l0], eO it1 16 [.int (nI (0 + 1)), .int (nI 0), .int c.lm, .ref c.la], eAL E c.la c.lq c.lm [l0.a, l1.a, l2.a, l3.a], W1, eO c.a 1 [.ref c.la, .ref c.ca, .ref c.ba, .ref c.sa, .int c.u.tk, .int c.u.cm, .int c.u.dk, .int c.u.co, .int c.u.wt, .int c.u.lk], eLans 1 [l1, l2, l3], rs] 10 [some (.ref c.a), some (.int (0 + (nI (qX l0.zs).length))), some (.ref it1), none] [] 1 4
  refine z_aload_n C dX1_inQueues_10 rfl rfl ?_
  refine z_callF (r := (RJ13, TJ13, 4)) (As := []) (rest := []) (Δ := [eLans 0 [l0], W1, eO c.a 1 [.ref c.la, .ref c.ca, .ref c.ba, .ref c.sa, .int c.u.tk, .int c.u.cm, .int c.u.dk, .int c.u.co, .int c.u.wt, .int c.u.lk], eLans 1 [l1, l2, l3], rs]) [1, 2] [0, 3, 4, 5, 6] 0 (m_AItr_hasNext hl E it1 c.la c.lq c.lm (nI 0) [l0.a, l1.a, l2.a, l3.a] (Nat.le_of_ble_eq_true rfl) 1 (Nat.le_of_ble_eq_true rfl)) C dX1_inQueues_11 rfl rfl (eIn (i := 1) rfl List.mem_cons_self) rfl rfl C.2.2.2.2.2.2.2.1.2.2.2.2.1.1 q455 q476 q474 q68 q478 (by decide +kernel) rfl (ePm 7 rfl (by decide +kernel)) rfl rfl ⟨Nat.le_of_ble_eq_true rfl, Nat.le_of_ble_eq_true rfl⟩ (Nat.le_trans eS0 (Nat.le_of_ble_eq_true rfl)) ⟨Nat.le_of_ble_eq_true rfl, Nat.le_of_ble_eq_true rfl⟩ (fun v_ Γ_ hp_ => ?_)
  obtain ⟨rfl, rfl⟩ := hp_
  show eZ x E _ [eO it1 16 [.int (nI 1), .int (nI 0), .int c.lm, .ref c.la], eAL E c.la c.lq c.lm [l0.a, l1.a, l2.a, l3.a], eLans 0 [l0], W1, eO c.a 1 [.ref c.la, .ref c.ca, .ref c.ba, .ref c.sa, .int c.u.tk, .int c.u.cm, .int c.u.dk, .int c.u.co, .int c.u.wt, .int c.u.lk], eLans 1 [l1, l2, l3], rs] 16 [some (.ref c.a), some (.int (0 + (nI (qX l0.zs).length))), some (.ref it1), none] [.int (eB (decide (1 < [l0.a, l1.a, l2.a, l3.a].length)))] 1 4
  refine z_if_eq_B 42 C dX1_inQueues_16 (by decide) (fun h_ => absurd h_ (by simp)) (fun h_ => ?_)
  refine z_aload_n C dX1_inQueues_19 rfl rfl ?_
  refine z_callF (r := (RJ13, TJ13, 4)) (As := []) (rest := []) (Δ := [eLans 0 [l0], W1, eO c.a 1 [.ref c.la, .ref c.ca, .ref c.ba, .ref c.sa, .int c.u.tk, .int c.u.cm, .int c.u.dk, .int c.u.co, .int c.u.wt, .int c.u.lk], eLans 1 [l1, l2, l3], rs]) [0, 1] [2, 3, 4, 5, 6] 0 (m_AItr_next hl E it1 c.la c.lq c.lm (nI 0) [l0.a, l1.a, l2.a, l3.a] (Nat.le_of_ble_eq_true rfl) 1 l1.a rfl) C dX1_inQueues_20 rfl rfl (eIn (i := 0) rfl List.mem_cons_self) rfl rfl C.2.2.2.2.2.2.2.1.2.2.2.2.1.2.1 q489 q797 q795 q68 q799 (by decide +kernel) rfl (ePm 7 rfl (by decide +kernel)) rfl rfl ⟨Nat.le_of_ble_eq_true rfl, Nat.le_of_ble_eq_true rfl⟩ (Nat.le_trans eS0 (Nat.le_of_ble_eq_true rfl)) ⟨Nat.le_of_ble_eq_true rfl, Nat.le_of_ble_eq_true rfl⟩ (fun v_ Γ_ hp_ => ?_)
  obtain ⟨rfl, rfl⟩ := hp_
  show eZ x E _ [eO it1 16 [.int (nI (1 + 1)), .int (nI 1), .int c.lm, .ref c.la], eAL E c.la c.lq c.lm [l0.a, l1.a, l2.a, l3.a], eLans 0 [l0], W1, eO c.a 1 [.ref c.la, .ref c.ca, .ref c.ba, .ref c.sa, .int c.u.tk, .int c.u.cm, .int c.u.dk, .int c.u.co, .int c.u.wt, .int c.u.lk], eLans 1 [l1, l2, l3], rs] 25 [some (.ref c.a), some (.int (0 + (nI (qX l0.zs).length))), some (.ref it1), none] [.ref l1.a] 1 4
  refine z_cut 5 (bs := [eO l1.a 2 [.int (nI 1), .ref l1.qa, .int l1.v.li, .int l1.v.tu, .int l1.v.st, .int l1.v.gd, .int l1.v.ck], eLL l1.qa l1.m (qX l1.zs), qE l1.zs, eLans 2 [l2, l3]]) rfl (by rw [eLans_cons, eLan_cut]; simp) rfl ?_
  show eZ x E _ [eO it1 16 [.int (nI (1 + 1)), .int (nI 1), .int c.lm, .ref c.la], eAL E c.la c.lq c.lm [l0.a, l1.a, l2.a, l3.a], eLans 0 [l0], W1, eO c.a 1 [.ref c.la, .ref c.ca, .ref c.ba, .ref c.sa, .int c.u.tk, .int c.u.cm, .int c.u.dk, .int c.u.co, .int c.u.wt, .int c.u.lk], eO l1.a 2 [.int (nI 1), .ref l1.qa, .int l1.v.li, .int l1.v.tu, .int l1.v.st, .int l1.v.gd, .int l1.v.ck], eLL l1.qa l1.m (qX l1.zs), qE l1.zs, eLans 2 [l2, l3], rs] 25 [some (.ref c.a), some (.int (0 + (nI (qX l0.zs).length))), some (.ref it1), none] [.ref l1.a] 1 4
  refine z_castE C dX1_inQueues_25 (eIn (i := 5) rfl List.mem_cons_self) (show eCl[2]? = some _ from rfl) rfl q162 ?_
  refine z_astore_n (L2 := [some (.ref c.a), some (.int (0 + (nI (qX l0.zs).length))), some (.ref it1), some (.ref l1.a)]) C dX1_inQueues_28 rfl (Nat.le_of_ble_eq_true rfl) rfl ?_
  refine z_iload_n C dX1_inQueues_29 rfl rfl ?_
  refine z_aload_n C dX1_inQueues_30 rfl rfl ?_
  refine z_getN eK2 5 1 C dX1_inQueues_31 rfl rfl q173 (eSame1 rfl) (by decide) rfl ?_
  refine z_callV (r := (RJ4, TJ4, 4)) (As := []) (rest := [.int (0 + (nI (qX l0.zs).length))]) (Δ := [eO it1 16 [.int (nI (1 + 1)), .int (nI 1), .int c.lm, .ref c.la], eAL E c.la c.lq c.lm [l0.a, l1.a, l2.a, l3.a], eLans 0 [l0], W1, eO c.a 1 [.ref c.la, .ref c.ca, .ref c.ba, .ref c.sa, .int c.u.tk, .int c.u.cm, .int c.u.dk, .int c.u.co, .int c.u.wt, .int c.u.lk], eO l1.a 2 [.int (nI 1), .ref l1.qa, .int l1.v.li, .int l1.v.tu, .int l1.v.st, .int l1.v.gd, .int l1.v.ck], qE l1.zs, eLans 2 [l2, l3], rs]) [6] [0, 1, 2, 3, 4, 5, 7, 8, 9] 0 (m_LL_size hl E l1.qa l1.m (qX l1.zs)) C dX1_inQueues_34 rfl rfl (eIn (i := 6) rfl eLL_mem) rfl rfl q1030 q471 q1945 q55 q472 (by decide +kernel) rfl (ePm 10 rfl (by decide +kernel)) rfl rfl ⟨Nat.le_of_ble_eq_true rfl, Nat.le_of_ble_eq_true rfl⟩ (Nat.le_trans (eSm rfl eS0) (Nat.le_of_ble_eq_true rfl)) ⟨Nat.le_of_ble_eq_true rfl, Nat.le_of_ble_eq_true rfl⟩ (fun v_ Γ_ hp_ => ?_)
  obtain ⟨rfl, rfl⟩ := hp_
  show eZ x E _ [eLL l1.qa l1.m (qX l1.zs), eO it1 16 [.int (nI (1 + 1)), .int (nI 1), .int c.lm, .ref c.la], eAL E c.la c.lq c.lm [l0.a, l1.a, l2.a, l3.a], eLans 0 [l0], W1, eO c.a 1 [.ref c.la, .ref c.ca, .ref c.ba, .ref c.sa, .int c.u.tk, .int c.u.cm, .int c.u.dk, .int c.u.co, .int c.u.wt, .int c.u.lk], eO l1.a 2 [.int (nI 1), .ref l1.qa, .int l1.v.li, .int l1.v.tu, .int l1.v.st, .int l1.v.gd, .int l1.v.ck], qE l1.zs, eLans 2 [l2, l3], rs] 37 [some (.ref c.a), some (.int (0 + (nI (qX l0.zs).length))), some (.ref it1), some (.ref l1.a)] [.int (nI (qX l1.zs).length), .int (0 + (nI (qX l0.zs).length))] 1 4
  refine z_iadd (w := (0 + (nI (qX l0.zs).length)) + (nI (qX l1.zs).length)) C dX1_inQueues_37 rfl ?_
  refine z_istore_n (L2 := [some (.ref c.a), some (.int ((0 + (nI (qX l0.zs).length)) + (nI (qX l1.zs).length))), some (.ref it1), some (.ref l1.a)]) C dX1_inQueues_38 rfl (Nat.le_of_ble_eq_true rfl) rfl ?_
  refine z_goto 10 C dX1_inQueues_39 (by decide) ?_
  refine z_forget (L' := [some (.ref c.a), some (.int ((0 + (nI (qX l0.zs).length)) + (nI (qX l1.zs).length))), some (.ref it1), none]) ⟨Or.inr rfl, Or.inr rfl, Or.inr rfl, Or.inl rfl, trivial⟩ ?_
  refine z_pick (Γ' := [eLans 0 [l0], eO l1.a 2 [.int (nI 1), .ref l1.qa, .int l1.v.li, .int l1.v.tu, .int l1.v.st, .int l1.v.gd, .int l1.v.ck], eLL l1.qa l1.m (qX l1.zs), qE l1.zs, eO it1 16 [.int (nI (1 + 1)), .int (nI 1), .int c.lm, .ref c.la], eAL E c.la c.lq c.lm [l0.a, l1.a, l2.a, l3.a], W1, eO c.a 1 [.ref c.la, .ref c.ca, .ref c.ba, .ref c.sa, .int c.u.tk, .int c.u.cm, .int c.u.dk, .int c.u.co, .int c.u.wt, .int c.u.lk], eLans 2 [l2, l3], rs]) [3, 6, 0, 7, 1, 2, 4, 5, 8, 9] (ePm 10 rfl (by decide +kernel)) rfl ?_
  refine z_join 4 (b := eLans 0 [l0, l1]) (by simp [eLans_cons, eLans_nil, eLan]) rfl ?_
  show eZ x E _ [eLans 0 [l0, l1], eO it1 16 [.int (nI (1 + 1)), .int (nI 1), .int c.lm, .ref c.la], eAL E c.la c.lq c.lm [l0.a, l1.a, l2.a, l3.a], W1, eO c.a 1 [.ref c.la, .ref c.ca, .ref c.ba, .ref c.sa, .int c.u.tk, .int c.u.cm, .int c.u.dk, .int c.u.co, .int c.u.wt, .int c.u.lk], eLans 2 [l2, l3], rs] 10 [some (.ref c.a), some (.int ((0 + (nI (qX l0.zs).length)) + (nI (qX l1.zs).length))), some (.ref it1), none] [] 1 4
  refine z_aload_n C dX1_inQueues_10 rfl rfl ?_
  refine z_callF (r := (RJ13, TJ13, 4)) (As := []) (rest := []) (Δ := [eLans 0 [l0, l1], W1, eO c.a 1 [.ref c.la, .ref c.ca, .ref c.ba, .ref c.sa, .int c.u.tk, .int c.u.cm, .int c.u.dk, .int c.u.co, .int c.u.wt, .int c.u.lk], eLans 2 [l2, l3], rs]) [1, 2] [0, 3, 4, 5, 6] 0 (m_AItr_hasNext hl E it1 c.la c.lq c.lm (nI 1) [l0.a, l1.a, l2.a, l3.a] (Nat.le_of_ble_eq_true rfl) 2 (Nat.le_of_ble_eq_true rfl)) C dX1_inQueues_11 rfl rfl (eIn (i := 1) rfl List.mem_cons_self) rfl rfl C.2.2.2.2.2.2.2.1.2.2.2.2.1.1 q455 q476 q474 q68 q478 (by decide +kernel) rfl (ePm 7 rfl (by decide +kernel)) rfl rfl ⟨Nat.le_of_ble_eq_true rfl, Nat.le_of_ble_eq_true rfl⟩ (Nat.le_trans eS0 (Nat.le_of_ble_eq_true rfl)) ⟨Nat.le_of_ble_eq_true rfl, Nat.le_of_ble_eq_true rfl⟩ (fun v_ Γ_ hp_ => ?_)
  obtain ⟨rfl, rfl⟩ := hp_
  show eZ x E _ [eO it1 16 [.int (nI 2), .int (nI 1), .int c.lm, .ref c.la], eAL E c.la c.lq c.lm [l0.a, l1.a, l2.a, l3.a], eLans 0 [l0, l1], W1, eO c.a 1 [.ref c.la, .ref c.ca, .ref c.ba, .ref c.sa, .int c.u.tk, .int c.u.cm, .int c.u.dk, .int c.u.co, .int c.u.wt, .int c.u.lk], eLans 2 [l2, l3], rs] 16 [some (.ref c.a), some (.int ((0 + (nI (qX l0.zs).length)) + (nI (qX l1.zs).length))), some (.ref it1), none] [.int (eB (decide (2 < [l0.a, l1.a, l2.a, l3.a].length)))] 1 4
  refine z_if_eq_B 42 C dX1_inQueues_16 (by decide) (fun h_ => absurd h_ (by simp)) (fun h_ => ?_)
  refine z_aload_n C dX1_inQueues_19 rfl rfl ?_
  refine z_callF (r := (RJ13, TJ13, 4)) (As := []) (rest := []) (Δ := [eLans 0 [l0, l1], W1, eO c.a 1 [.ref c.la, .ref c.ca, .ref c.ba, .ref c.sa, .int c.u.tk, .int c.u.cm, .int c.u.dk, .int c.u.co, .int c.u.wt, .int c.u.lk], eLans 2 [l2, l3], rs]) [0, 1] [2, 3, 4, 5, 6] 0 (m_AItr_next hl E it1 c.la c.lq c.lm (nI 1) [l0.a, l1.a, l2.a, l3.a] (Nat.le_of_ble_eq_true rfl) 2 l2.a rfl) C dX1_inQueues_20 rfl rfl (eIn (i := 0) rfl List.mem_cons_self) rfl rfl C.2.2.2.2.2.2.2.1.2.2.2.2.1.2.1 q489 q797 q795 q68 q799 (by decide +kernel) rfl (ePm 7 rfl (by decide +kernel)) rfl rfl ⟨Nat.le_of_ble_eq_true rfl, Nat.le_of_ble_eq_true rfl⟩ (Nat.le_trans eS0 (Nat.le_of_ble_eq_true rfl)) ⟨Nat.le_of_ble_eq_true rfl, Nat.le_of_ble_eq_true rfl⟩ (fun v_ Γ_ hp_ => ?_)
  obtain ⟨rfl, rfl⟩ := hp_
  show eZ x E _ [eO it1 16 [.int (nI (2 + 1)), .int (nI 2), .int c.lm, .ref c.la], eAL E c.la c.lq c.lm [l0.a, l1.a, l2.a, l3.a], eLans 0 [l0, l1], W1, eO c.a 1 [.ref c.la, .ref c.ca, .ref c.ba, .ref c.sa, .int c.u.tk, .int c.u.cm, .int c.u.dk, .int c.u.co, .int c.u.wt, .int c.u.lk], eLans 2 [l2, l3], rs] 25 [some (.ref c.a), some (.int ((0 + (nI (qX l0.zs).length)) + (nI (qX l1.zs).length))), some (.ref it1), none] [.ref l2.a] 1 4
  refine z_cut 5 (bs := [eO l2.a 2 [.int (nI 2), .ref l2.qa, .int l2.v.li, .int l2.v.tu, .int l2.v.st, .int l2.v.gd, .int l2.v.ck], eLL l2.qa l2.m (qX l2.zs), qE l2.zs, eLans 3 [l3]]) rfl (by rw [eLans_cons, eLan_cut]; simp) rfl ?_
  show eZ x E _ [eO it1 16 [.int (nI (2 + 1)), .int (nI 2), .int c.lm, .ref c.la], eAL E c.la c.lq c.lm [l0.a, l1.a, l2.a, l3.a], eLans 0 [l0, l1], W1, eO c.a 1 [.ref c.la, .ref c.ca, .ref c.ba, .ref c.sa, .int c.u.tk, .int c.u.cm, .int c.u.dk, .int c.u.co, .int c.u.wt, .int c.u.lk], eO l2.a 2 [.int (nI 2), .ref l2.qa, .int l2.v.li, .int l2.v.tu, .int l2.v.st, .int l2.v.gd, .int l2.v.ck], eLL l2.qa l2.m (qX l2.zs), qE l2.zs, eLans 3 [l3], rs] 25 [some (.ref c.a), some (.int ((0 + (nI (qX l0.zs).length)) + (nI (qX l1.zs).length))), some (.ref it1), none] [.ref l2.a] 1 4
  refine z_castE C dX1_inQueues_25 (eIn (i := 5) rfl List.mem_cons_self) (show eCl[2]? = some _ from rfl) rfl q162 ?_
  refine z_astore_n (L2 := [some (.ref c.a), some (.int ((0 + (nI (qX l0.zs).length)) + (nI (qX l1.zs).length))), some (.ref it1), some (.ref l2.a)]) C dX1_inQueues_28 rfl (Nat.le_of_ble_eq_true rfl) rfl ?_
  refine z_iload_n C dX1_inQueues_29 rfl rfl ?_
  refine z_aload_n C dX1_inQueues_30 rfl rfl ?_
  refine z_getN eK2 5 1 C dX1_inQueues_31 rfl rfl q173 (eSame1 rfl) (by decide) rfl ?_
  refine z_callV (r := (RJ4, TJ4, 4)) (As := []) (rest := [.int ((0 + (nI (qX l0.zs).length)) + (nI (qX l1.zs).length))]) (Δ := [eO it1 16 [.int (nI (2 + 1)), .int (nI 2), .int c.lm, .ref c.la], eAL E c.la c.lq c.lm [l0.a, l1.a, l2.a, l3.a], eLans 0 [l0, l1], W1, eO c.a 1 [.ref c.la, .ref c.ca, .ref c.ba, .ref c.sa, .int c.u.tk, .int c.u.cm, .int c.u.dk, .int c.u.co, .int c.u.wt, .int c.u.lk], eO l2.a 2 [.int (nI 2), .ref l2.qa, .int l2.v.li, .int l2.v.tu, .int l2.v.st, .int l2.v.gd, .int l2.v.ck], qE l2.zs, eLans 3 [l3], rs]) [6] [0, 1, 2, 3, 4, 5, 7, 8, 9] 0 (m_LL_size hl E l2.qa l2.m (qX l2.zs)) C dX1_inQueues_34 rfl rfl (eIn (i := 6) rfl eLL_mem) rfl rfl q1030 q471 q1945 q55 q472 (by decide +kernel) rfl (ePm 10 rfl (by decide +kernel)) rfl rfl ⟨Nat.le_of_ble_eq_true rfl, Nat.le_of_ble_eq_true rfl⟩ (Nat.le_trans (eSm rfl eS0) (Nat.le_of_ble_eq_true rfl)) ⟨Nat.le_of_ble_eq_true rfl, Nat.le_of_ble_eq_true rfl⟩ (fun v_ Γ_ hp_ => ?_)
  obtain ⟨rfl, rfl⟩ := hp_
  show eZ x E _ [eLL l2.qa l2.m (qX l2.zs), eO it1 16 [.int (nI (2 + 1)), .int (nI 2), .int c.lm, .ref c.la], eAL E c.la c.lq c.lm [l0.a, l1.a, l2.a, l3.a], eLans 0 [l0, l1], W1, eO c.a 1 [.ref c.la, .ref c.ca, .ref c.ba, .ref c.sa, .int c.u.tk, .int c.u.cm, .int c.u.dk, .int c.u.co, .int c.u.wt, .int c.u.lk], eO l2.a 2 [.int (nI 2), .ref l2.qa, .int l2.v.li, .int l2.v.tu, .int l2.v.st, .int l2.v.gd, .int l2.v.ck], qE l2.zs, eLans 3 [l3], rs] 37 [some (.ref c.a), some (.int ((0 + (nI (qX l0.zs).length)) + (nI (qX l1.zs).length))), some (.ref it1), some (.ref l2.a)] [.int (nI (qX l2.zs).length), .int ((0 + (nI (qX l0.zs).length)) + (nI (qX l1.zs).length))] 1 4
  refine z_iadd (w := ((0 + (nI (qX l0.zs).length)) + (nI (qX l1.zs).length)) + (nI (qX l2.zs).length)) C dX1_inQueues_37 rfl ?_
  refine z_istore_n (L2 := [some (.ref c.a), some (.int (((0 + (nI (qX l0.zs).length)) + (nI (qX l1.zs).length)) + (nI (qX l2.zs).length))), some (.ref it1), some (.ref l2.a)]) C dX1_inQueues_38 rfl (Nat.le_of_ble_eq_true rfl) rfl ?_
  refine z_goto 10 C dX1_inQueues_39 (by decide) ?_
  refine z_forget (L' := [some (.ref c.a), some (.int (((0 + (nI (qX l0.zs).length)) + (nI (qX l1.zs).length)) + (nI (qX l2.zs).length))), some (.ref it1), none]) ⟨Or.inr rfl, Or.inr rfl, Or.inr rfl, Or.inl rfl, trivial⟩ ?_
  refine z_pick (Γ' := [eLans 0 [l0, l1], eO l2.a 2 [.int (nI 2), .ref l2.qa, .int l2.v.li, .int l2.v.tu, .int l2.v.st, .int l2.v.gd, .int l2.v.ck], eLL l2.qa l2.m (qX l2.zs), qE l2.zs, eO it1 16 [.int (nI (2 + 1)), .int (nI 2), .int c.lm, .ref c.la], eAL E c.la c.lq c.lm [l0.a, l1.a, l2.a, l3.a], W1, eO c.a 1 [.ref c.la, .ref c.ca, .ref c.ba, .ref c.sa, .int c.u.tk, .int c.u.cm, .int c.u.dk, .int c.u.co, .int c.u.wt, .int c.u.lk], eLans 3 [l3], rs]) [3, 6, 0, 7, 1, 2, 4, 5, 8, 9] (ePm 10 rfl (by decide +kernel)) rfl ?_
  refine z_join 4 (b := eLans 0 [l0, l1, l2]) (by simp [eLans_cons, eLans_nil, eLan]) rfl ?_
  show eZ x E _ [eLans 0 [l0, l1, l2], eO it1 16 [.int (nI (2 + 1)), .int (nI 2), .int c.lm, .ref c.la], eAL E c.la c.lq c.lm [l0.a, l1.a, l2.a, l3.a], W1, eO c.a 1 [.ref c.la, .ref c.ca, .ref c.ba, .ref c.sa, .int c.u.tk, .int c.u.cm, .int c.u.dk, .int c.u.co, .int c.u.wt, .int c.u.lk], eLans 3 [l3], rs] 10 [some (.ref c.a), some (.int (((0 + (nI (qX l0.zs).length)) + (nI (qX l1.zs).length)) + (nI (qX l2.zs).length))), some (.ref it1), none] [] 1 4
  refine z_aload_n C dX1_inQueues_10 rfl rfl ?_
  refine z_callF (r := (RJ13, TJ13, 4)) (As := []) (rest := []) (Δ := [eLans 0 [l0, l1, l2], W1, eO c.a 1 [.ref c.la, .ref c.ca, .ref c.ba, .ref c.sa, .int c.u.tk, .int c.u.cm, .int c.u.dk, .int c.u.co, .int c.u.wt, .int c.u.lk], eLans 3 [l3], rs]) [1, 2] [0, 3, 4, 5, 6] 0 (m_AItr_hasNext hl E it1 c.la c.lq c.lm (nI 2) [l0.a, l1.a, l2.a, l3.a] (Nat.le_of_ble_eq_true rfl) 3 (Nat.le_of_ble_eq_true rfl)) C dX1_inQueues_11 rfl rfl (eIn (i := 1) rfl List.mem_cons_self) rfl rfl C.2.2.2.2.2.2.2.1.2.2.2.2.1.1 q455 q476 q474 q68 q478 (by decide +kernel) rfl (ePm 7 rfl (by decide +kernel)) rfl rfl ⟨Nat.le_of_ble_eq_true rfl, Nat.le_of_ble_eq_true rfl⟩ (Nat.le_trans eS0 (Nat.le_of_ble_eq_true rfl)) ⟨Nat.le_of_ble_eq_true rfl, Nat.le_of_ble_eq_true rfl⟩ (fun v_ Γ_ hp_ => ?_)
  obtain ⟨rfl, rfl⟩ := hp_
  show eZ x E _ [eO it1 16 [.int (nI 3), .int (nI 2), .int c.lm, .ref c.la], eAL E c.la c.lq c.lm [l0.a, l1.a, l2.a, l3.a], eLans 0 [l0, l1, l2], W1, eO c.a 1 [.ref c.la, .ref c.ca, .ref c.ba, .ref c.sa, .int c.u.tk, .int c.u.cm, .int c.u.dk, .int c.u.co, .int c.u.wt, .int c.u.lk], eLans 3 [l3], rs] 16 [some (.ref c.a), some (.int (((0 + (nI (qX l0.zs).length)) + (nI (qX l1.zs).length)) + (nI (qX l2.zs).length))), some (.ref it1), none] [.int (eB (decide (3 < [l0.a, l1.a, l2.a, l3.a].length)))] 1 4
  refine z_if_eq_B 42 C dX1_inQueues_16 (by decide) (fun h_ => absurd h_ (by simp)) (fun h_ => ?_)
  refine z_aload_n C dX1_inQueues_19 rfl rfl ?_
  refine z_callF (r := (RJ13, TJ13, 4)) (As := []) (rest := []) (Δ := [eLans 0 [l0, l1, l2], W1, eO c.a 1 [.ref c.la, .ref c.ca, .ref c.ba, .ref c.sa, .int c.u.tk, .int c.u.cm, .int c.u.dk, .int c.u.co, .int c.u.wt, .int c.u.lk], eLans 3 [l3], rs]) [0, 1] [2, 3, 4, 5, 6] 0 (m_AItr_next hl E it1 c.la c.lq c.lm (nI 2) [l0.a, l1.a, l2.a, l3.a] (Nat.le_of_ble_eq_true rfl) 3 l3.a rfl) C dX1_inQueues_20 rfl rfl (eIn (i := 0) rfl List.mem_cons_self) rfl rfl C.2.2.2.2.2.2.2.1.2.2.2.2.1.2.1 q489 q797 q795 q68 q799 (by decide +kernel) rfl (ePm 7 rfl (by decide +kernel)) rfl rfl ⟨Nat.le_of_ble_eq_true rfl, Nat.le_of_ble_eq_true rfl⟩ (Nat.le_trans eS0 (Nat.le_of_ble_eq_true rfl)) ⟨Nat.le_of_ble_eq_true rfl, Nat.le_of_ble_eq_true rfl⟩ (fun v_ Γ_ hp_ => ?_)
  obtain ⟨rfl, rfl⟩ := hp_
  show eZ x E _ [eO it1 16 [.int (nI (3 + 1)), .int (nI 3), .int c.lm, .ref c.la], eAL E c.la c.lq c.lm [l0.a, l1.a, l2.a, l3.a], eLans 0 [l0, l1, l2], W1, eO c.a 1 [.ref c.la, .ref c.ca, .ref c.ba, .ref c.sa, .int c.u.tk, .int c.u.cm, .int c.u.dk, .int c.u.co, .int c.u.wt, .int c.u.lk], eLans 3 [l3], rs] 25 [some (.ref c.a), some (.int (((0 + (nI (qX l0.zs).length)) + (nI (qX l1.zs).length)) + (nI (qX l2.zs).length))), some (.ref it1), none] [.ref l3.a] 1 4
  refine z_cut 5 (bs := [eO l3.a 2 [.int (nI 3), .ref l3.qa, .int l3.v.li, .int l3.v.tu, .int l3.v.st, .int l3.v.gd, .int l3.v.ck], eLL l3.qa l3.m (qX l3.zs), qE l3.zs, eLans 4 []]) rfl (by rw [eLans_cons, eLan_cut]; simp) rfl ?_
  show eZ x E _ [eO it1 16 [.int (nI (3 + 1)), .int (nI 3), .int c.lm, .ref c.la], eAL E c.la c.lq c.lm [l0.a, l1.a, l2.a, l3.a], eLans 0 [l0, l1, l2], W1, eO c.a 1 [.ref c.la, .ref c.ca, .ref c.ba, .ref c.sa, .int c.u.tk, .int c.u.cm, .int c.u.dk, .int c.u.co, .int c.u.wt, .int c.u.lk], eO l3.a 2 [.int (nI 3), .ref l3.qa, .int l3.v.li, .int l3.v.tu, .int l3.v.st, .int l3.v.gd, .int l3.v.ck], eLL l3.qa l3.m (qX l3.zs), qE l3.zs, eLans 4 [], rs] 25 [some (.ref c.a), some (.int (((0 + (nI (qX l0.zs).length)) + (nI (qX l1.zs).length)) + (nI (qX l2.zs).length))), some (.ref it1), none] [.ref l3.a] 1 4
  refine z_castE C dX1_inQueues_25 (eIn (i := 5) rfl List.mem_cons_self) (show eCl[2]? = some _ from rfl) rfl q162 ?_
  refine z_astore_n (L2 := [some (.ref c.a), some (.int (((0 + (nI (qX l0.zs).length)) + (nI (qX l1.zs).length)) + (nI (qX l2.zs).length))), some (.ref it1), some (.ref l3.a)]) C dX1_inQueues_28 rfl (Nat.le_of_ble_eq_true rfl) rfl ?_
  refine z_iload_n C dX1_inQueues_29 rfl rfl ?_
  refine z_aload_n C dX1_inQueues_30 rfl rfl ?_
  refine z_getN eK2 5 1 C dX1_inQueues_31 rfl rfl q173 (eSame1 rfl) (by decide) rfl ?_
  refine z_callV (r := (RJ4, TJ4, 4)) (As := []) (rest := [.int (((0 + (nI (qX l0.zs).length)) + (nI (qX l1.zs).length)) + (nI (qX l2.zs).length))]) (Δ := [eO it1 16 [.int (nI (3 + 1)), .int (nI 3), .int c.lm, .ref c.la], eAL E c.la c.lq c.lm [l0.a, l1.a, l2.a, l3.a], eLans 0 [l0, l1, l2], W1, eO c.a 1 [.ref c.la, .ref c.ca, .ref c.ba, .ref c.sa, .int c.u.tk, .int c.u.cm, .int c.u.dk, .int c.u.co, .int c.u.wt, .int c.u.lk], eO l3.a 2 [.int (nI 3), .ref l3.qa, .int l3.v.li, .int l3.v.tu, .int l3.v.st, .int l3.v.gd, .int l3.v.ck], qE l3.zs, eLans 4 [], rs]) [6] [0, 1, 2, 3, 4, 5, 7, 8, 9] 0 (m_LL_size hl E l3.qa l3.m (qX l3.zs)) C dX1_inQueues_34 rfl rfl (eIn (i := 6) rfl eLL_mem) rfl rfl q1030 q471 q1945 q55 q472 (by decide +kernel) rfl (ePm 10 rfl (by decide +kernel)) rfl rfl ⟨Nat.le_of_ble_eq_true rfl, Nat.le_of_ble_eq_true rfl⟩ (Nat.le_trans (eSm rfl eS0) (Nat.le_of_ble_eq_true rfl)) ⟨Nat.le_of_ble_eq_true rfl, Nat.le_of_ble_eq_true rfl⟩ (fun v_ Γ_ hp_ => ?_)
  obtain ⟨rfl, rfl⟩ := hp_
  show eZ x E _ [eLL l3.qa l3.m (qX l3.zs), eO it1 16 [.int (nI (3 + 1)), .int (nI 3), .int c.lm, .ref c.la], eAL E c.la c.lq c.lm [l0.a, l1.a, l2.a, l3.a], eLans 0 [l0, l1, l2], W1, eO c.a 1 [.ref c.la, .ref c.ca, .ref c.ba, .ref c.sa, .int c.u.tk, .int c.u.cm, .int c.u.dk, .int c.u.co, .int c.u.wt, .int c.u.lk], eO l3.a 2 [.int (nI 3), .ref l3.qa, .int l3.v.li, .int l3.v.tu, .int l3.v.st, .int l3.v.gd, .int l3.v.ck], qE l3.zs, eLans 4 [], rs] 37 [some (.ref c.a), some (.int (((0 + (nI (qX l0.zs).length)) + (nI (qX l1.zs).length)) + (nI (qX l2.zs).length))), some (.ref it1), some (.ref l3.a)] [.int (nI (qX l3.zs).length), .int (((0 + (nI (qX l0.zs).length)) + (nI (qX l1.zs).length)) + (nI (qX l2.zs).length))] 1 4
  refine z_iadd (w := (((0 + (nI (qX l0.zs).length)) + (nI (qX l1.zs).length)) + (nI (qX l2.zs).length)) + (nI (qX l3.zs).length)) C dX1_inQueues_37 rfl ?_
  refine z_istore_n (L2 := [some (.ref c.a), some (.int ((((0 + (nI (qX l0.zs).length)) + (nI (qX l1.zs).length)) + (nI (qX l2.zs).length)) + (nI (qX l3.zs).length))), some (.ref it1), some (.ref l3.a)]) C dX1_inQueues_38 rfl (Nat.le_of_ble_eq_true rfl) rfl ?_
  refine z_goto 10 C dX1_inQueues_39 (by decide) ?_
  refine z_forget (L' := [some (.ref c.a), some (.int ((((0 + (nI (qX l0.zs).length)) + (nI (qX l1.zs).length)) + (nI (qX l2.zs).length)) + (nI (qX l3.zs).length))), some (.ref it1), none]) ⟨Or.inr rfl, Or.inr rfl, Or.inr rfl, Or.inl rfl, trivial⟩ ?_
  refine z_pick (Γ' := [eLans 0 [l0, l1, l2], eO l3.a 2 [.int (nI 3), .ref l3.qa, .int l3.v.li, .int l3.v.tu, .int l3.v.st, .int l3.v.gd, .int l3.v.ck], eLL l3.qa l3.m (qX l3.zs), qE l3.zs, eO it1 16 [.int (nI (3 + 1)), .int (nI 3), .int c.lm, .ref c.la], eAL E c.la c.lq c.lm [l0.a, l1.a, l2.a, l3.a], W1, eO c.a 1 [.ref c.la, .ref c.ca, .ref c.ba, .ref c.sa, .int c.u.tk, .int c.u.cm, .int c.u.dk, .int c.u.co, .int c.u.wt, .int c.u.lk], eLans 4 [], rs]) [3, 6, 0, 7, 1, 2, 4, 5, 8, 9] (ePm 10 rfl (by decide +kernel)) rfl ?_
  refine z_join 4 (b := eLans 0 [l0, l1, l2, l3]) (by simp [eLans_cons, eLans_nil, eLan]) rfl ?_
  show eZ x E _ [eLans 0 [l0, l1, l2, l3], eO it1 16 [.int (nI (3 + 1)), .int (nI 3), .int c.lm, .ref c.la], eAL E c.la c.lq c.lm [l0.a, l1.a, l2.a, l3.a], W1, eO c.a 1 [.ref c.la, .ref c.ca, .ref c.ba, .ref c.sa, .int c.u.tk, .int c.u.cm, .int c.u.dk, .int c.u.co, .int c.u.wt, .int c.u.lk], eLans 4 [], rs] 10 [some (.ref c.a), some (.int ((((0 + (nI (qX l0.zs).length)) + (nI (qX l1.zs).length)) + (nI (qX l2.zs).length)) + (nI (qX l3.zs).length))), some (.ref it1), none] [] 1 4
  refine z_aload_n C dX1_inQueues_10 rfl rfl ?_
  refine z_callF (r := (RJ13, TJ13, 4)) (As := []) (rest := []) (Δ := [eLans 0 [l0, l1, l2, l3], W1, eO c.a 1 [.ref c.la, .ref c.ca, .ref c.ba, .ref c.sa, .int c.u.tk, .int c.u.cm, .int c.u.dk, .int c.u.co, .int c.u.wt, .int c.u.lk], eLans 4 [], rs]) [1, 2] [0, 3, 4, 5, 6] 0 (m_AItr_hasNext hl E it1 c.la c.lq c.lm (nI 3) [l0.a, l1.a, l2.a, l3.a] (Nat.le_of_ble_eq_true rfl) 4 (Nat.le_of_ble_eq_true rfl)) C dX1_inQueues_11 rfl rfl (eIn (i := 1) rfl List.mem_cons_self) rfl rfl C.2.2.2.2.2.2.2.1.2.2.2.2.1.1 q455 q476 q474 q68 q478 (by decide +kernel) rfl (ePm 7 rfl (by decide +kernel)) rfl rfl ⟨Nat.le_of_ble_eq_true rfl, Nat.le_of_ble_eq_true rfl⟩ (Nat.le_trans eS0 (Nat.le_of_ble_eq_true rfl)) ⟨Nat.le_of_ble_eq_true rfl, Nat.le_of_ble_eq_true rfl⟩ (fun v_ Γ_ hp_ => ?_)
  obtain ⟨rfl, rfl⟩ := hp_
  show eZ x E _ [eO it1 16 [.int (nI 4), .int (nI 3), .int c.lm, .ref c.la], eAL E c.la c.lq c.lm [l0.a, l1.a, l2.a, l3.a], eLans 0 [l0, l1, l2, l3], W1, eO c.a 1 [.ref c.la, .ref c.ca, .ref c.ba, .ref c.sa, .int c.u.tk, .int c.u.cm, .int c.u.dk, .int c.u.co, .int c.u.wt, .int c.u.lk], eLans 4 [], rs] 16 [some (.ref c.a), some (.int ((((0 + (nI (qX l0.zs).length)) + (nI (qX l1.zs).length)) + (nI (qX l2.zs).length)) + (nI (qX l3.zs).length))), some (.ref it1), none] [.int (eB (decide (4 < [l0.a, l1.a, l2.a, l3.a].length)))] 1 4
  refine z_if_eq_B 42 C dX1_inQueues_16 (by decide) (fun h_ => ?_) (fun h_ => absurd h_ (by simp))
  refine z_pick (Γ' := [eO it1 16 [.int (nI 4), .int (nI 3), .int c.lm, .ref c.la], eAL E c.la c.lq c.lm [l0.a, l1.a, l2.a, l3.a], eLans 0 [l0, l1, l2, l3], W1, eO c.a 1 [.ref c.la, .ref c.ca, .ref c.ba, .ref c.sa, .int c.u.tk, .int c.u.cm, .int c.u.dk, .int c.u.co, .int c.u.wt, .int c.u.lk], eLans 4 [], rs]) [0, 1, 2, 3, 4, 5, 6] (ePm 7 rfl (by decide +kernel)) rfl ?_
  refine z_drop ?_
  show eZ x E _ [eAL E c.la c.lq c.lm [l0.a, l1.a, l2.a, l3.a], eLans 0 [l0, l1, l2, l3], W1, eO c.a 1 [.ref c.la, .ref c.ca, .ref c.ba, .ref c.sa, .int c.u.tk, .int c.u.cm, .int c.u.dk, .int c.u.co, .int c.u.wt, .int c.u.lk], eLans 4 [], rs] 42 [some (.ref c.a), some (.int ((((0 + (nI (qX l0.zs).length)) + (nI (qX l1.zs).length)) + (nI (qX l2.zs).length)) + (nI (qX l3.zs).length))), some (.ref it1), none] [] 1 4
  refine z_pick (Γ' := [eLans 4 [], eAL E c.la c.lq c.lm [l0.a, l1.a, l2.a, l3.a], eLans 0 [l0, l1, l2, l3], W1, eO c.a 1 [.ref c.la, .ref c.ca, .ref c.ba, .ref c.sa, .int c.u.tk, .int c.u.cm, .int c.u.dk, .int c.u.co, .int c.u.wt, .int c.u.lk], rs]) [4, 0, 1, 2, 3, 5] (ePm 6 rfl (by decide +kernel)) rfl ?_
  refine z_drop ?_
  show eZ x E _ [eAL E c.la c.lq c.lm [l0.a, l1.a, l2.a, l3.a], eLans 0 [l0, l1, l2, l3], W1, eO c.a 1 [.ref c.la, .ref c.ca, .ref c.ba, .ref c.sa, .int c.u.tk, .int c.u.cm, .int c.u.dk, .int c.u.co, .int c.u.wt, .int c.u.lk], rs] 42 [some (.ref c.a), some (.int ((((0 + (nI (qX l0.zs).length)) + (nI (qX l1.zs).length)) + (nI (qX l2.zs).length)) + (nI (qX l3.zs).length))), some (.ref it1), none] [] 1 4
  refine z_cut 2 (bs := [eAL E c.ca c.cq c.cm (kA c.crs), eCrs c.crs, eLL c.ba c.bm (bX c.bk), eIA E c.sa 4 c.st]) rfl hW1 rfl ?_
  show eZ x E _ [eAL E c.la c.lq c.lm [l0.a, l1.a, l2.a, l3.a], eLans 0 [l0, l1, l2, l3], eAL E c.ca c.cq c.cm (kA c.crs), eCrs c.crs, eLL c.ba c.bm (bX c.bk), eIA E c.sa 4 c.st, eO c.a 1 [.ref c.la, .ref c.ca, .ref c.ba, .ref c.sa, .int c.u.tk, .int c.u.cm, .int c.u.dk, .int c.u.co, .int c.u.wt, .int c.u.lk], rs] 42 [some (.ref c.a), some (.int ((((0 + (nI (qX l0.zs).length)) + (nI (qX l1.zs).length)) + (nI (qX l2.zs).length)) + (nI (qX l3.zs).length))), some (.ref it1), none] [] 1 4
  refine z_iload_n C dX1_inQueues_42 rfl rfl ?_
  refine z_pick (Γ' := [eO c.a 1 [.ref c.la, .ref c.ca, .ref c.ba, .ref c.sa, .int c.u.tk, .int c.u.cm, .int c.u.dk, .int c.u.co, .int c.u.wt, .int c.u.lk], eAL E c.la c.lq c.lm [l0.a, l1.a, l2.a, l3.a], eLans 0 [l0, l1, l2, l3], eAL E c.ca c.cq c.cm (kA c.crs), eCrs c.crs, eLL c.ba c.bm (bX c.bk), eIA E c.sa 4 c.st, rs]) [6, 0, 1, 2, 3, 4, 5, 7] (ePm 8 rfl (by decide +kernel)) rfl ?_
  refine z_join 7 (b := eMac E c) (by symm; rw [eMac_cut (c := c), hlns]; rfl) rfl ?_
  show eZ x E _ [eMac E c, rs] 43 [some (.ref c.a), some (.int ((((0 + (nI (qX l0.zs).length)) + (nI (qX l1.zs).length)) + (nI (qX l2.zs).length)) + (nI (qX l3.zs).length))), some (.ref it1), none] [.int ((((0 + (nI (qX l0.zs).length)) + (nI (qX l1.zs).length)) + (nI (qX l2.zs).length)) + (nI (qX l3.zs).length))] 1 4
  refine z_pick (Γ' := [eMac E c, rs]) [0, 1] (ePm 2 rfl (by decide +kernel)) rfl ?_
  subst hQ_
  exact z_ret (Γ := [eMac E c]) C dX1_inQueues_43 rfl rfl (Nat.le_of_ble_eq_true rfl) (Nat.le_of_ble_eq_true rfl) ⟨by rw [gInQ, Cm.abs, hlns]; simp [lV, Am.ls], rfl⟩

set_option maxHeartbeats 4000000 in
theorem m_ofCrates {l : Launch} (hl : l.stackTraces = false) (E : eEn) (c : Cm) (hok : gOk c.abs) (w : Int32) : eMet l E yX0_ofCrates (ws_ yX0_ofCrates cX0_ofCrates 5 (some .int)) ({ frames := 3, cells := 1, slots := 4, locals := 53 }) [.ref c.a, .int w] [eMac E c] (fun w9 Γ => w9 = some (.int (gOfC c.abs w)) ∧ Γ = [eMac E c]) := by
  refine eStart (cc := cX0_ofCrates) (nL := 5) (L := [some (.ref c.a), some (.int w), none, none, none]) hl (by decide) rfl (List.forall_mem_cons.mpr ⟨rfl, (List.forall_mem_cons.mpr ⟨rfl, (fun _ h => absurd h List.not_mem_nil)⟩)⟩) (Nat.le_of_ble_eq_true rfl) ?_
  intro x rs C
  show eZ x E (eQ x E (fun w9 Γ => w9 = some (.int (gOfC c.abs w)) ∧ Γ = [eMac E c]) rs) [eMac E c, rs] 0 [some (.ref c.a), some (.int w), none, none, none] [] 0 0
  generalize hQ_ : eQ x E (fun w9 Γ => w9 = some (.int (gOfC c.abs w)) ∧ Γ = [eMac E c]) rs = Q_
  obtain ⟨hk1, hk2, hk3, hk4, hk5, hk6⟩ := hok
  have hl4 : c.lns.length = 4 := by have h : (lV c.lns).length = 4 := hk1; rw [List.length_map] at h; exact h
  have hl8 : ∀ l ∈ c.lns, l.zs.length ≤ 8 := fun l hl => by have h : (qG l.zs).length ≤ 8 := hk2 _ (List.mem_map.mpr ⟨l, hl, rfl⟩); rw [List.length_map] at h; exact h
  have hc6 : c.crs.length = 6 := by have h : (c.crs.map Prod.snd).length = 6 := hk3; rw [List.length_map] at h; exact h
  have hb10 : c.bk.length ≤ 10 := by have h : (c.bk.map Prod.snd).length ≤ 10 := hk4; rw [List.length_map] at h; exact h
  have hla : (lA c.lns).length ≤ 10 := by rw [List.length_map]; omega
  have hka : (kA c.crs).length ≤ 10 := by rw [List.length_map]; omega
  have hc6b : ∃ c0 c1 c2 c3 c4 c5, c.crs = [c0, c1, c2, c3, c4, c5] := by
    rcases hx : c.crs with _ | ⟨c0, _ | ⟨c1, _ | ⟨c2, _ | ⟨c3, _ | ⟨c4, _ | ⟨c5, _ | ⟨c6, t⟩⟩⟩⟩⟩⟩⟩ <;> simp [hx] at hc6 <;> exact ⟨c0, c1, c2, c3, c4, c5, rfl⟩
  obtain ⟨c0, c1, c2, c3, c4, c5, hcrs⟩ := hc6b
  refine z_cut 0 (bs := [eO c.a 1 [.ref c.la, .ref c.ca, .ref c.ba, .ref c.sa, .int c.u.tk, .int c.u.cm, .int c.u.dk, .int c.u.co, .int c.u.wt, .int c.u.lk], eAL E c.la c.lq c.lm (lA c.lns), eLans 0 c.lns, eAL E c.ca c.cq c.cm [c0.1, c1.1, c2.1, c3.1, c4.1, c5.1], eCrs [c0, c1, c2, c3, c4, c5], eLL c.ba c.bm (bX c.bk), eIA E c.sa 4 c.st]) rfl (by rw [eMac_cut, hcrs]; rfl) rfl ?_
  show eZ x E _ [eO c.a 1 [.ref c.la, .ref c.ca, .ref c.ba, .ref c.sa, .int c.u.tk, .int c.u.cm, .int c.u.dk, .int c.u.co, .int c.u.wt, .int c.u.lk], eAL E c.la c.lq c.lm (lA c.lns), eLans 0 c.lns, eAL E c.ca c.cq c.cm [c0.1, c1.1, c2.1, c3.1, c4.1, c5.1], eCrs [c0, c1, c2, c3, c4, c5], eLL c.ba c.bm (bX c.bk), eIA E c.sa 4 c.st, rs] 0 [some (.ref c.a), some (.int w), none, none, none] [] 0 0
  refine z_pick (Γ' := [eAL E c.la c.lq c.lm (lA c.lns), eLans 0 c.lns, eLL c.ba c.bm (bX c.bk), eIA E c.sa 4 c.st, eO c.a 1 [.ref c.la, .ref c.ca, .ref c.ba, .ref c.sa, .int c.u.tk, .int c.u.cm, .int c.u.dk, .int c.u.co, .int c.u.wt, .int c.u.lk], eAL E c.ca c.cq c.cm [c0.1, c1.1, c2.1, c3.1, c4.1, c5.1], eCrs [c0, c1, c2, c3, c4, c5], rs]) [1, 2, 5, 6, 0, 3, 4, 7] (ePm 8 rfl (by decide +kernel)) rfl ?_
  refine z_join 4 (b := [eAL E c.la c.lq c.lm (lA c.lns), eLans 0 c.lns, eLL c.ba c.bm (bX c.bk), eIA E c.sa 4 c.st].flatten) rfl rfl ?_
  show eZ x E _ [[eAL E c.la c.lq c.lm (lA c.lns), eLans 0 c.lns, eLL c.ba c.bm (bX c.bk), eIA E c.sa 4 c.st].flatten, eO c.a 1 [.ref c.la, .ref c.ca, .ref c.ba, .ref c.sa, .int c.u.tk, .int c.u.cm, .int c.u.dk, .int c.u.co, .int c.u.wt, .int c.u.lk], eAL E c.ca c.cq c.cm [c0.1, c1.1, c2.1, c3.1, c4.1, c5.1], eCrs [c0, c1, c2, c3, c4, c5], rs] 0 [some (.ref c.a), some (.int w), none, none, none] [] 0 0
  obtain ⟨W1, hW1⟩ : ∃ W_, W_ = [eAL E c.la c.lq c.lm (lA c.lns), eLans 0 c.lns, eLL c.ba c.bm (bX c.bk), eIA E c.sa 4 c.st].flatten := ⟨_, rfl⟩
  refine z_go (Γ' := [W1, eO c.a 1 [.ref c.la, .ref c.ca, .ref c.ba, .ref c.sa, .int c.u.tk, .int c.u.cm, .int c.u.dk, .int c.u.co, .int c.u.wt, .int c.u.lk], eAL E c.ca c.cq c.cm [c0.1, c1.1, c2.1, c3.1, c4.1, c5.1], eCrs [c0, c1, c2, c3, c4, c5], rs]) (by rw [← hW1]) ?_
  show eZ x E _ [W1, eO c.a 1 [.ref c.la, .ref c.ca, .ref c.ba, .ref c.sa, .int c.u.tk, .int c.u.cm, .int c.u.dk, .int c.u.co, .int c.u.wt, .int c.u.lk], eAL E c.ca c.cq c.cm [c0.1, c1.1, c2.1, c3.1, c4.1, c5.1], eCrs [c0, c1, c2, c3, c4, c5], rs] 0 [some (.ref c.a), some (.int w), none, none, none] [] 0 0
  refine z_iconst (v := 0) C dX0_ofCrates_0 (by decide) ?_
  refine z_istore_n (L2 := [some (.ref c.a), some (.int w), some (.int 0), none, none]) C dX0_ofCrates_1 rfl (Nat.le_of_ble_eq_true rfl) rfl ?_
  refine z_aload_n C dX0_ofCrates_2 rfl rfl ?_
  refine z_getN eK1 1 1 C dX0_ofCrates_3 rfl rfl q310 (eSame1 rfl) (by decide) rfl ?_
  refine z_callV (r := (RJ2, TJ2, 3)) (As := []) (rest := []) (Δ := [W1, eO c.a 1 [.ref c.la, .ref c.ca, .ref c.ba, .ref c.sa, .int c.u.tk, .int c.u.cm, .int c.u.dk, .int c.u.co, .int c.u.wt, .int c.u.lk], eCrs [c0, c1, c2, c3, c4, c5], rs]) [2] [0, 1, 3, 4] 0 (m_AL_iterator hl E c.ca c.cq c.cm [c0.1, c1.1, c2.1, c3.1, c4.1, c5.1] (Nat.le_of_ble_eq_true rfl)) C dX0_ofCrates_6 rfl rfl (eIn (i := 2) rfl eAL_mem) rfl rfl q1431 q430 q431 q53 q432 (by decide +kernel) rfl (ePm 5 rfl (by decide +kernel)) rfl rfl ⟨Nat.le_of_ble_eq_true rfl, Nat.le_of_ble_eq_true rfl⟩ (Nat.le_trans eS0 (Nat.le_of_ble_eq_true rfl)) ⟨Nat.le_of_ble_eq_true rfl, Nat.le_of_ble_eq_true rfl⟩ (fun v_ Γ_ hp_ => ?_)
  obtain ⟨it1, rfl, rfl⟩ := hp_
  show eZ x E _ [eO it1 16 [.int 0, .int (-1), .int c.cm, .ref c.ca], eAL E c.ca c.cq c.cm [c0.1, c1.1, c2.1, c3.1, c4.1, c5.1], W1, eO c.a 1 [.ref c.la, .ref c.ca, .ref c.ba, .ref c.sa, .int c.u.tk, .int c.u.cm, .int c.u.dk, .int c.u.co, .int c.u.wt, .int c.u.lk], eCrs [c0, c1, c2, c3, c4, c5], rs] 9 [some (.ref c.a), some (.int w), some (.int 0), none, none] [.ref it1] 1 4
  refine z_astore_n (L2 := [some (.ref c.a), some (.int w), some (.int 0), some (.ref it1), none]) C dX0_ofCrates_9 rfl (Nat.le_of_ble_eq_true rfl) rfl ?_
  refine z_cut 4 (bs := [eCrs [], eCrs [c0, c1, c2, c3, c4, c5]]) rfl rfl rfl ?_
  show eZ x E _ [eO it1 16 [.int 0, .int (-1), .int c.cm, .ref c.ca], eAL E c.ca c.cq c.cm [c0.1, c1.1, c2.1, c3.1, c4.1, c5.1], W1, eO c.a 1 [.ref c.la, .ref c.ca, .ref c.ba, .ref c.sa, .int c.u.tk, .int c.u.cm, .int c.u.dk, .int c.u.co, .int c.u.wt, .int c.u.lk], eCrs [], eCrs [c0, c1, c2, c3, c4, c5], rs] 10 [some (.ref c.a), some (.int w), some (.int 0), some (.ref it1), none] [] 1 4
  refine z_aload_n C dX0_ofCrates_10 rfl rfl ?_
  refine z_callF (r := (RJ13, TJ13, 4)) (As := []) (rest := []) (Δ := [W1, eO c.a 1 [.ref c.la, .ref c.ca, .ref c.ba, .ref c.sa, .int c.u.tk, .int c.u.cm, .int c.u.dk, .int c.u.co, .int c.u.wt, .int c.u.lk], eCrs [], eCrs [c0, c1, c2, c3, c4, c5], rs]) [0, 1] [2, 3, 4, 5, 6] 0 (m_AItr_hasNext hl E it1 c.ca c.cq c.cm (-1) [c0.1, c1.1, c2.1, c3.1, c4.1, c5.1] (Nat.le_of_ble_eq_true rfl) 0 (Nat.le_of_ble_eq_true rfl)) C dX0_ofCrates_11 rfl rfl (eIn (i := 0) rfl List.mem_cons_self) rfl rfl C.2.2.2.2.2.2.2.1.2.2.2.2.1.1 q1404 q476 q474 q68 q478 (by decide +kernel) rfl (ePm 7 rfl (by decide +kernel)) rfl rfl ⟨Nat.le_of_ble_eq_true rfl, Nat.le_of_ble_eq_true rfl⟩ (Nat.le_trans eS0 (Nat.le_of_ble_eq_true rfl)) ⟨Nat.le_of_ble_eq_true rfl, Nat.le_of_ble_eq_true rfl⟩ (fun v_ Γ_ hp_ => ?_)
  obtain ⟨rfl, rfl⟩ := hp_
  show eZ x E _ [eO it1 16 [.int (nI 0), .int (-1), .int c.cm, .ref c.ca], eAL E c.ca c.cq c.cm [c0.1, c1.1, c2.1, c3.1, c4.1, c5.1], W1, eO c.a 1 [.ref c.la, .ref c.ca, .ref c.ba, .ref c.sa, .int c.u.tk, .int c.u.cm, .int c.u.dk, .int c.u.co, .int c.u.wt, .int c.u.lk], eCrs [], eCrs [c0, c1, c2, c3, c4, c5], rs] 16 [some (.ref c.a), some (.int w), some (.int 0), some (.ref it1), none] [.int (eB (decide (0 < [c0.1, c1.1, c2.1, c3.1, c4.1, c5.1].length)))] 1 4
  refine z_if_eq_B 68 C dX0_ofCrates_16 (by decide) (fun h_ => absurd h_ (by simp)) (fun h_ => ?_)
  refine z_aload_n C dX0_ofCrates_19 rfl rfl ?_
  refine z_callF (r := (RJ13, TJ13, 4)) (As := []) (rest := []) (Δ := [W1, eO c.a 1 [.ref c.la, .ref c.ca, .ref c.ba, .ref c.sa, .int c.u.tk, .int c.u.cm, .int c.u.dk, .int c.u.co, .int c.u.wt, .int c.u.lk], eCrs [], eCrs [c0, c1, c2, c3, c4, c5], rs]) [0, 1] [2, 3, 4, 5, 6] 0 (m_AItr_next hl E it1 c.ca c.cq c.cm (-1) [c0.1, c1.1, c2.1, c3.1, c4.1, c5.1] (Nat.le_of_ble_eq_true rfl) 0 c0.1 rfl) C dX0_ofCrates_20 rfl rfl (eIn (i := 0) rfl List.mem_cons_self) rfl rfl C.2.2.2.2.2.2.2.1.2.2.2.2.1.2.1 q1406 q797 q795 q68 q799 (by decide +kernel) rfl (ePm 7 rfl (by decide +kernel)) rfl rfl ⟨Nat.le_of_ble_eq_true rfl, Nat.le_of_ble_eq_true rfl⟩ (Nat.le_trans eS0 (Nat.le_of_ble_eq_true rfl)) ⟨Nat.le_of_ble_eq_true rfl, Nat.le_of_ble_eq_true rfl⟩ (fun v_ Γ_ hp_ => ?_)
  obtain ⟨rfl, rfl⟩ := hp_
  show eZ x E _ [eO it1 16 [.int (nI (0 + 1)), .int (nI 0), .int c.cm, .ref c.ca], eAL E c.ca c.cq c.cm [c0.1, c1.1, c2.1, c3.1, c4.1, c5.1], W1, eO c.a 1 [.ref c.la, .ref c.ca, .ref c.ba, .ref c.sa, .int c.u.tk, .int c.u.cm, .int c.u.dk, .int c.u.co, .int c.u.wt, .int c.u.lk], eCrs [], eCrs [c0, c1, c2, c3, c4, c5], rs] 25 [some (.ref c.a), some (.int w), some (.int 0), some (.ref it1), none] [.ref c0.1] 1 4
  refine z_cut 5 (bs := [eO c0.1 3 [.int c0.2.eggs, .int c0.2.cracked, .int c0.2.sold, .int c0.2.returned, .int c0.2.all], eCrs [c1, c2, c3, c4, c5]]) rfl (by rw [eCrs_cons]; simp) rfl ?_
  show eZ x E _ [eO it1 16 [.int (nI (0 + 1)), .int (nI 0), .int c.cm, .ref c.ca], eAL E c.ca c.cq c.cm [c0.1, c1.1, c2.1, c3.1, c4.1, c5.1], W1, eO c.a 1 [.ref c.la, .ref c.ca, .ref c.ba, .ref c.sa, .int c.u.tk, .int c.u.cm, .int c.u.dk, .int c.u.co, .int c.u.wt, .int c.u.lk], eCrs [], eO c0.1 3 [.int c0.2.eggs, .int c0.2.cracked, .int c0.2.sold, .int c0.2.returned, .int c0.2.all], eCrs [c1, c2, c3, c4, c5], rs] 25 [some (.ref c.a), some (.int w), some (.int 0), some (.ref it1), none] [.ref c0.1] 1 4
  refine z_castE C dX0_ofCrates_25 (eIn (i := 5) rfl List.mem_cons_self) (show eCl[3]? = some _ from rfl) rfl q1364 ?_
  refine z_astore (L2 := [some (.ref c.a), some (.int w), some (.int 0), some (.ref it1), some (.ref c0.1)]) C dX0_ofCrates_28 (Nat.le_of_ble_eq_true rfl) rfl ?_
  refine z_iload_n C dX0_ofCrates_30 rfl rfl ?_
  refine z_iload_n C dX0_ofCrates_31 rfl rfl ?_
  refine z_iconst (v := 3) C dX0_ofCrates_32 (by decide) ?_
  suffices J_ : eZ x E Q_ [eO it1 16 [.int (nI (0 + 1)), .int (nI 0), .int c.cm, .ref c.ca], eAL E c.ca c.cq c.cm [c0.1, c1.1, c2.1, c3.1, c4.1, c5.1], W1, eO c.a 1 [.ref c.la, .ref c.ca, .ref c.ba, .ref c.sa, .int c.u.tk, .int c.u.cm, .int c.u.dk, .int c.u.co, .int c.u.wt, .int c.u.lk], eCrs [], eO c0.1 3 [.int c0.2.eggs, .int c0.2.cracked, .int c0.2.sold, .int c0.2.returned, .int c0.2.all], eCrs [c1, c2, c3, c4, c5], rs] 63 [some (.ref c.a), some (.int w), some (.int 0), some (.ref it1), some (.ref c0.1)] [.int (gOf w c0.2), .int 0] 1 4 by
    refine z_icmp_ne 44 C dX0_ofCrates_33 (by decide) (fun h1 => ?_) (fun h1 => ?_)
    · refine z_iload_n C dX0_ofCrates_44 rfl rfl ?_
      refine z_bipush (v := 7) C dX0_ofCrates_45 (by decide) ?_
      refine z_icmp_ne 58 C dX0_ofCrates_47 (by decide) (fun h2 => ?_) (fun h2 => ?_)
      · refine z_aload C dX0_ofCrates_58 rfl ?_
        refine z_getN eK3 5 3 C dX0_ofCrates_60 rfl rfl q292 (eSame1 rfl) (by decide) rfl ?_
        refine z_is (w := gOf w c0.2) (by rw [gOf, if_neg h1, if_neg h2]) ?_
        exact J_
      · refine z_aload C dX0_ofCrates_50 rfl ?_
        refine z_getN eK3 5 2 C dX0_ofCrates_52 rfl rfl q289 (eSame1 rfl) (by decide) rfl ?_
        refine z_goto 63 C dX0_ofCrates_55 (by decide) ?_
        refine z_is (w := gOf w c0.2) (by rw [gOf, if_neg h1, if_pos h2]) ?_
        exact J_
    · refine z_aload C dX0_ofCrates_36 rfl ?_
      refine z_getN eK3 5 4 C dX0_ofCrates_38 rfl rfl q295 (eSame1 rfl) (by decide) rfl ?_
      refine z_goto 63 C dX0_ofCrates_41 (by decide) ?_
      refine z_is (w := gOf w c0.2) (by rw [gOf, if_pos h1]) ?_
      exact J_
  refine z_iadd (w := 0 + (gOf w c0.2)) C dX0_ofCrates_63 rfl ?_
  refine z_istore_n (L2 := [some (.ref c.a), some (.int w), some (.int (0 + (gOf w c0.2))), some (.ref it1), some (.ref c0.1)]) C dX0_ofCrates_64 rfl (Nat.le_of_ble_eq_true rfl) rfl ?_
  refine z_goto 10 C dX0_ofCrates_65 (by decide) ?_
  refine z_forget (L' := [some (.ref c.a), some (.int w), some (.int (0 + (gOf w c0.2))), some (.ref it1), none]) ⟨Or.inr rfl, Or.inr rfl, Or.inr rfl, Or.inr rfl, Or.inl rfl, trivial⟩ ?_
  refine z_pick (Γ' := [eCrs [], eO c0.1 3 [.int c0.2.eggs, .int c0.2.cracked, .int c0.2.sold, .int c0.2.returned, .int c0.2.all], eO it1 16 [.int (nI (0 + 1)), .int (nI 0), .int c.cm, .ref c.ca], eAL E c.ca c.cq c.cm [c0.1, c1.1, c2.1, c3.1, c4.1, c5.1], W1, eO c.a 1 [.ref c.la, .ref c.ca, .ref c.ba, .ref c.sa, .int c.u.tk, .int c.u.cm, .int c.u.dk, .int c.u.co, .int c.u.wt, .int c.u.lk], eCrs [c1, c2, c3, c4, c5], rs]) [4, 5, 0, 1, 2, 3, 6, 7] (ePm 8 rfl (by decide +kernel)) rfl ?_
  refine z_join 2 (b := eCrs [c0]) rfl rfl ?_
  show eZ x E _ [eCrs [c0], eO it1 16 [.int (nI (0 + 1)), .int (nI 0), .int c.cm, .ref c.ca], eAL E c.ca c.cq c.cm [c0.1, c1.1, c2.1, c3.1, c4.1, c5.1], W1, eO c.a 1 [.ref c.la, .ref c.ca, .ref c.ba, .ref c.sa, .int c.u.tk, .int c.u.cm, .int c.u.dk, .int c.u.co, .int c.u.wt, .int c.u.lk], eCrs [c1, c2, c3, c4, c5], rs] 10 [some (.ref c.a), some (.int w), some (.int (0 + (gOf w c0.2))), some (.ref it1), none] [] 1 4
  refine z_aload_n C dX0_ofCrates_10 rfl rfl ?_
  refine z_callF (r := (RJ13, TJ13, 4)) (As := []) (rest := []) (Δ := [eCrs [c0], W1, eO c.a 1 [.ref c.la, .ref c.ca, .ref c.ba, .ref c.sa, .int c.u.tk, .int c.u.cm, .int c.u.dk, .int c.u.co, .int c.u.wt, .int c.u.lk], eCrs [c1, c2, c3, c4, c5], rs]) [1, 2] [0, 3, 4, 5, 6] 0 (m_AItr_hasNext hl E it1 c.ca c.cq c.cm (nI 0) [c0.1, c1.1, c2.1, c3.1, c4.1, c5.1] (Nat.le_of_ble_eq_true rfl) 1 (Nat.le_of_ble_eq_true rfl)) C dX0_ofCrates_11 rfl rfl (eIn (i := 1) rfl List.mem_cons_self) rfl rfl C.2.2.2.2.2.2.2.1.2.2.2.2.1.1 q1404 q476 q474 q68 q478 (by decide +kernel) rfl (ePm 7 rfl (by decide +kernel)) rfl rfl ⟨Nat.le_of_ble_eq_true rfl, Nat.le_of_ble_eq_true rfl⟩ (Nat.le_trans eS0 (Nat.le_of_ble_eq_true rfl)) ⟨Nat.le_of_ble_eq_true rfl, Nat.le_of_ble_eq_true rfl⟩ (fun v_ Γ_ hp_ => ?_)
  obtain ⟨rfl, rfl⟩ := hp_
  show eZ x E _ [eO it1 16 [.int (nI 1), .int (nI 0), .int c.cm, .ref c.ca], eAL E c.ca c.cq c.cm [c0.1, c1.1, c2.1, c3.1, c4.1, c5.1], eCrs [c0], W1, eO c.a 1 [.ref c.la, .ref c.ca, .ref c.ba, .ref c.sa, .int c.u.tk, .int c.u.cm, .int c.u.dk, .int c.u.co, .int c.u.wt, .int c.u.lk], eCrs [c1, c2, c3, c4, c5], rs] 16 [some (.ref c.a), some (.int w), some (.int (0 + (gOf w c0.2))), some (.ref it1), none] [.int (eB (decide (1 < [c0.1, c1.1, c2.1, c3.1, c4.1, c5.1].length)))] 1 4
  refine z_if_eq_B 68 C dX0_ofCrates_16 (by decide) (fun h_ => absurd h_ (by simp)) (fun h_ => ?_)
  refine z_aload_n C dX0_ofCrates_19 rfl rfl ?_
  refine z_callF (r := (RJ13, TJ13, 4)) (As := []) (rest := []) (Δ := [eCrs [c0], W1, eO c.a 1 [.ref c.la, .ref c.ca, .ref c.ba, .ref c.sa, .int c.u.tk, .int c.u.cm, .int c.u.dk, .int c.u.co, .int c.u.wt, .int c.u.lk], eCrs [c1, c2, c3, c4, c5], rs]) [0, 1] [2, 3, 4, 5, 6] 0 (m_AItr_next hl E it1 c.ca c.cq c.cm (nI 0) [c0.1, c1.1, c2.1, c3.1, c4.1, c5.1] (Nat.le_of_ble_eq_true rfl) 1 c1.1 rfl) C dX0_ofCrates_20 rfl rfl (eIn (i := 0) rfl List.mem_cons_self) rfl rfl C.2.2.2.2.2.2.2.1.2.2.2.2.1.2.1 q1406 q797 q795 q68 q799 (by decide +kernel) rfl (ePm 7 rfl (by decide +kernel)) rfl rfl ⟨Nat.le_of_ble_eq_true rfl, Nat.le_of_ble_eq_true rfl⟩ (Nat.le_trans eS0 (Nat.le_of_ble_eq_true rfl)) ⟨Nat.le_of_ble_eq_true rfl, Nat.le_of_ble_eq_true rfl⟩ (fun v_ Γ_ hp_ => ?_)
  obtain ⟨rfl, rfl⟩ := hp_
  show eZ x E _ [eO it1 16 [.int (nI (1 + 1)), .int (nI 1), .int c.cm, .ref c.ca], eAL E c.ca c.cq c.cm [c0.1, c1.1, c2.1, c3.1, c4.1, c5.1], eCrs [c0], W1, eO c.a 1 [.ref c.la, .ref c.ca, .ref c.ba, .ref c.sa, .int c.u.tk, .int c.u.cm, .int c.u.dk, .int c.u.co, .int c.u.wt, .int c.u.lk], eCrs [c1, c2, c3, c4, c5], rs] 25 [some (.ref c.a), some (.int w), some (.int (0 + (gOf w c0.2))), some (.ref it1), none] [.ref c1.1] 1 4
  refine z_cut 5 (bs := [eO c1.1 3 [.int c1.2.eggs, .int c1.2.cracked, .int c1.2.sold, .int c1.2.returned, .int c1.2.all], eCrs [c2, c3, c4, c5]]) rfl (by rw [eCrs_cons]; simp) rfl ?_
  show eZ x E _ [eO it1 16 [.int (nI (1 + 1)), .int (nI 1), .int c.cm, .ref c.ca], eAL E c.ca c.cq c.cm [c0.1, c1.1, c2.1, c3.1, c4.1, c5.1], eCrs [c0], W1, eO c.a 1 [.ref c.la, .ref c.ca, .ref c.ba, .ref c.sa, .int c.u.tk, .int c.u.cm, .int c.u.dk, .int c.u.co, .int c.u.wt, .int c.u.lk], eO c1.1 3 [.int c1.2.eggs, .int c1.2.cracked, .int c1.2.sold, .int c1.2.returned, .int c1.2.all], eCrs [c2, c3, c4, c5], rs] 25 [some (.ref c.a), some (.int w), some (.int (0 + (gOf w c0.2))), some (.ref it1), none] [.ref c1.1] 1 4
  refine z_castE C dX0_ofCrates_25 (eIn (i := 5) rfl List.mem_cons_self) (show eCl[3]? = some _ from rfl) rfl q1364 ?_
  refine z_astore (L2 := [some (.ref c.a), some (.int w), some (.int (0 + (gOf w c0.2))), some (.ref it1), some (.ref c1.1)]) C dX0_ofCrates_28 (Nat.le_of_ble_eq_true rfl) rfl ?_
  refine z_iload_n C dX0_ofCrates_30 rfl rfl ?_
  refine z_iload_n C dX0_ofCrates_31 rfl rfl ?_
  refine z_iconst (v := 3) C dX0_ofCrates_32 (by decide) ?_
  suffices J_ : eZ x E Q_ [eO it1 16 [.int (nI (1 + 1)), .int (nI 1), .int c.cm, .ref c.ca], eAL E c.ca c.cq c.cm [c0.1, c1.1, c2.1, c3.1, c4.1, c5.1], eCrs [c0], W1, eO c.a 1 [.ref c.la, .ref c.ca, .ref c.ba, .ref c.sa, .int c.u.tk, .int c.u.cm, .int c.u.dk, .int c.u.co, .int c.u.wt, .int c.u.lk], eO c1.1 3 [.int c1.2.eggs, .int c1.2.cracked, .int c1.2.sold, .int c1.2.returned, .int c1.2.all], eCrs [c2, c3, c4, c5], rs] 63 [some (.ref c.a), some (.int w), some (.int (0 + (gOf w c0.2))), some (.ref it1), some (.ref c1.1)] [.int (gOf w c1.2), .int (0 + (gOf w c0.2))] 1 4 by
    refine z_icmp_ne 44 C dX0_ofCrates_33 (by decide) (fun h1 => ?_) (fun h1 => ?_)
    · refine z_iload_n C dX0_ofCrates_44 rfl rfl ?_
      refine z_bipush (v := 7) C dX0_ofCrates_45 (by decide) ?_
      refine z_icmp_ne 58 C dX0_ofCrates_47 (by decide) (fun h2 => ?_) (fun h2 => ?_)
      · refine z_aload C dX0_ofCrates_58 rfl ?_
        refine z_getN eK3 5 3 C dX0_ofCrates_60 rfl rfl q292 (eSame1 rfl) (by decide) rfl ?_
        refine z_is (w := gOf w c1.2) (by rw [gOf, if_neg h1, if_neg h2]) ?_
        exact J_
      · refine z_aload C dX0_ofCrates_50 rfl ?_
        refine z_getN eK3 5 2 C dX0_ofCrates_52 rfl rfl q289 (eSame1 rfl) (by decide) rfl ?_
        refine z_goto 63 C dX0_ofCrates_55 (by decide) ?_
        refine z_is (w := gOf w c1.2) (by rw [gOf, if_neg h1, if_pos h2]) ?_
        exact J_
    · refine z_aload C dX0_ofCrates_36 rfl ?_
      refine z_getN eK3 5 4 C dX0_ofCrates_38 rfl rfl q295 (eSame1 rfl) (by decide) rfl ?_
      refine z_goto 63 C dX0_ofCrates_41 (by decide) ?_
      refine z_is (w := gOf w c1.2) (by rw [gOf, if_pos h1]) ?_
      exact J_
  refine z_iadd (w := (0 + (gOf w c0.2)) + (gOf w c1.2)) C dX0_ofCrates_63 rfl ?_
  refine z_istore_n (L2 := [some (.ref c.a), some (.int w), some (.int ((0 + (gOf w c0.2)) + (gOf w c1.2))), some (.ref it1), some (.ref c1.1)]) C dX0_ofCrates_64 rfl (Nat.le_of_ble_eq_true rfl) rfl ?_
  refine z_goto 10 C dX0_ofCrates_65 (by decide) ?_
  refine z_forget (L' := [some (.ref c.a), some (.int w), some (.int ((0 + (gOf w c0.2)) + (gOf w c1.2))), some (.ref it1), none]) ⟨Or.inr rfl, Or.inr rfl, Or.inr rfl, Or.inr rfl, Or.inl rfl, trivial⟩ ?_
  refine z_pick (Γ' := [eCrs [c0], eO c1.1 3 [.int c1.2.eggs, .int c1.2.cracked, .int c1.2.sold, .int c1.2.returned, .int c1.2.all], eO it1 16 [.int (nI (1 + 1)), .int (nI 1), .int c.cm, .ref c.ca], eAL E c.ca c.cq c.cm [c0.1, c1.1, c2.1, c3.1, c4.1, c5.1], W1, eO c.a 1 [.ref c.la, .ref c.ca, .ref c.ba, .ref c.sa, .int c.u.tk, .int c.u.cm, .int c.u.dk, .int c.u.co, .int c.u.wt, .int c.u.lk], eCrs [c2, c3, c4, c5], rs]) [2, 5, 0, 1, 3, 4, 6, 7] (ePm 8 rfl (by decide +kernel)) rfl ?_
  refine z_join 2 (b := eCrs [c0, c1]) rfl rfl ?_
  show eZ x E _ [eCrs [c0, c1], eO it1 16 [.int (nI (1 + 1)), .int (nI 1), .int c.cm, .ref c.ca], eAL E c.ca c.cq c.cm [c0.1, c1.1, c2.1, c3.1, c4.1, c5.1], W1, eO c.a 1 [.ref c.la, .ref c.ca, .ref c.ba, .ref c.sa, .int c.u.tk, .int c.u.cm, .int c.u.dk, .int c.u.co, .int c.u.wt, .int c.u.lk], eCrs [c2, c3, c4, c5], rs] 10 [some (.ref c.a), some (.int w), some (.int ((0 + (gOf w c0.2)) + (gOf w c1.2))), some (.ref it1), none] [] 1 4
  refine z_aload_n C dX0_ofCrates_10 rfl rfl ?_
  refine z_callF (r := (RJ13, TJ13, 4)) (As := []) (rest := []) (Δ := [eCrs [c0, c1], W1, eO c.a 1 [.ref c.la, .ref c.ca, .ref c.ba, .ref c.sa, .int c.u.tk, .int c.u.cm, .int c.u.dk, .int c.u.co, .int c.u.wt, .int c.u.lk], eCrs [c2, c3, c4, c5], rs]) [1, 2] [0, 3, 4, 5, 6] 0 (m_AItr_hasNext hl E it1 c.ca c.cq c.cm (nI 1) [c0.1, c1.1, c2.1, c3.1, c4.1, c5.1] (Nat.le_of_ble_eq_true rfl) 2 (Nat.le_of_ble_eq_true rfl)) C dX0_ofCrates_11 rfl rfl (eIn (i := 1) rfl List.mem_cons_self) rfl rfl C.2.2.2.2.2.2.2.1.2.2.2.2.1.1 q1404 q476 q474 q68 q478 (by decide +kernel) rfl (ePm 7 rfl (by decide +kernel)) rfl rfl ⟨Nat.le_of_ble_eq_true rfl, Nat.le_of_ble_eq_true rfl⟩ (Nat.le_trans eS0 (Nat.le_of_ble_eq_true rfl)) ⟨Nat.le_of_ble_eq_true rfl, Nat.le_of_ble_eq_true rfl⟩ (fun v_ Γ_ hp_ => ?_)
  obtain ⟨rfl, rfl⟩ := hp_
  show eZ x E _ [eO it1 16 [.int (nI 2), .int (nI 1), .int c.cm, .ref c.ca], eAL E c.ca c.cq c.cm [c0.1, c1.1, c2.1, c3.1, c4.1, c5.1], eCrs [c0, c1], W1, eO c.a 1 [.ref c.la, .ref c.ca, .ref c.ba, .ref c.sa, .int c.u.tk, .int c.u.cm, .int c.u.dk, .int c.u.co, .int c.u.wt, .int c.u.lk], eCrs [c2, c3, c4, c5], rs] 16 [some (.ref c.a), some (.int w), some (.int ((0 + (gOf w c0.2)) + (gOf w c1.2))), some (.ref it1), none] [.int (eB (decide (2 < [c0.1, c1.1, c2.1, c3.1, c4.1, c5.1].length)))] 1 4
  refine z_if_eq_B 68 C dX0_ofCrates_16 (by decide) (fun h_ => absurd h_ (by simp)) (fun h_ => ?_)
  refine z_aload_n C dX0_ofCrates_19 rfl rfl ?_
  refine z_callF (r := (RJ13, TJ13, 4)) (As := []) (rest := []) (Δ := [eCrs [c0, c1], W1, eO c.a 1 [.ref c.la, .ref c.ca, .ref c.ba, .ref c.sa, .int c.u.tk, .int c.u.cm, .int c.u.dk, .int c.u.co, .int c.u.wt, .int c.u.lk], eCrs [c2, c3, c4, c5], rs]) [0, 1] [2, 3, 4, 5, 6] 0 (m_AItr_next hl E it1 c.ca c.cq c.cm (nI 1) [c0.1, c1.1, c2.1, c3.1, c4.1, c5.1] (Nat.le_of_ble_eq_true rfl) 2 c2.1 rfl) C dX0_ofCrates_20 rfl rfl (eIn (i := 0) rfl List.mem_cons_self) rfl rfl C.2.2.2.2.2.2.2.1.2.2.2.2.1.2.1 q1406 q797 q795 q68 q799 (by decide +kernel) rfl (ePm 7 rfl (by decide +kernel)) rfl rfl ⟨Nat.le_of_ble_eq_true rfl, Nat.le_of_ble_eq_true rfl⟩ (Nat.le_trans eS0 (Nat.le_of_ble_eq_true rfl)) ⟨Nat.le_of_ble_eq_true rfl, Nat.le_of_ble_eq_true rfl⟩ (fun v_ Γ_ hp_ => ?_)
  obtain ⟨rfl, rfl⟩ := hp_
  show eZ x E _ [eO it1 16 [.int (nI (2 + 1)), .int (nI 2), .int c.cm, .ref c.ca], eAL E c.ca c.cq c.cm [c0.1, c1.1, c2.1, c3.1, c4.1, c5.1], eCrs [c0, c1], W1, eO c.a 1 [.ref c.la, .ref c.ca, .ref c.ba, .ref c.sa, .int c.u.tk, .int c.u.cm, .int c.u.dk, .int c.u.co, .int c.u.wt, .int c.u.lk], eCrs [c2, c3, c4, c5], rs] 25 [some (.ref c.a), some (.int w), some (.int ((0 + (gOf w c0.2)) + (gOf w c1.2))), some (.ref it1), none] [.ref c2.1] 1 4
  refine z_cut 5 (bs := [eO c2.1 3 [.int c2.2.eggs, .int c2.2.cracked, .int c2.2.sold, .int c2.2.returned, .int c2.2.all], eCrs [c3, c4, c5]]) rfl (by rw [eCrs_cons]; simp) rfl ?_
  show eZ x E _ [eO it1 16 [.int (nI (2 + 1)), .int (nI 2), .int c.cm, .ref c.ca], eAL E c.ca c.cq c.cm [c0.1, c1.1, c2.1, c3.1, c4.1, c5.1], eCrs [c0, c1], W1, eO c.a 1 [.ref c.la, .ref c.ca, .ref c.ba, .ref c.sa, .int c.u.tk, .int c.u.cm, .int c.u.dk, .int c.u.co, .int c.u.wt, .int c.u.lk], eO c2.1 3 [.int c2.2.eggs, .int c2.2.cracked, .int c2.2.sold, .int c2.2.returned, .int c2.2.all], eCrs [c3, c4, c5], rs] 25 [some (.ref c.a), some (.int w), some (.int ((0 + (gOf w c0.2)) + (gOf w c1.2))), some (.ref it1), none] [.ref c2.1] 1 4
  refine z_castE C dX0_ofCrates_25 (eIn (i := 5) rfl List.mem_cons_self) (show eCl[3]? = some _ from rfl) rfl q1364 ?_
  refine z_astore (L2 := [some (.ref c.a), some (.int w), some (.int ((0 + (gOf w c0.2)) + (gOf w c1.2))), some (.ref it1), some (.ref c2.1)]) C dX0_ofCrates_28 (Nat.le_of_ble_eq_true rfl) rfl ?_
  refine z_iload_n C dX0_ofCrates_30 rfl rfl ?_
  refine z_iload_n C dX0_ofCrates_31 rfl rfl ?_
  refine z_iconst (v := 3) C dX0_ofCrates_32 (by decide) ?_
  suffices J_ : eZ x E Q_ [eO it1 16 [.int (nI (2 + 1)), .int (nI 2), .int c.cm, .ref c.ca], eAL E c.ca c.cq c.cm [c0.1, c1.1, c2.1, c3.1, c4.1, c5.1], eCrs [c0, c1], W1, eO c.a 1 [.ref c.la, .ref c.ca, .ref c.ba, .ref c.sa, .int c.u.tk, .int c.u.cm, .int c.u.dk, .int c.u.co, .int c.u.wt, .int c.u.lk], eO c2.1 3 [.int c2.2.eggs, .int c2.2.cracked, .int c2.2.sold, .int c2.2.returned, .int c2.2.all], eCrs [c3, c4, c5], rs] 63 [some (.ref c.a), some (.int w), some (.int ((0 + (gOf w c0.2)) + (gOf w c1.2))), some (.ref it1), some (.ref c2.1)] [.int (gOf w c2.2), .int ((0 + (gOf w c0.2)) + (gOf w c1.2))] 1 4 by
    refine z_icmp_ne 44 C dX0_ofCrates_33 (by decide) (fun h1 => ?_) (fun h1 => ?_)
    · refine z_iload_n C dX0_ofCrates_44 rfl rfl ?_
      refine z_bipush (v := 7) C dX0_ofCrates_45 (by decide) ?_
      refine z_icmp_ne 58 C dX0_ofCrates_47 (by decide) (fun h2 => ?_) (fun h2 => ?_)
      · refine z_aload C dX0_ofCrates_58 rfl ?_
        refine z_getN eK3 5 3 C dX0_ofCrates_60 rfl rfl q292 (eSame1 rfl) (by decide) rfl ?_
        refine z_is (w := gOf w c2.2) (by rw [gOf, if_neg h1, if_neg h2]) ?_
        exact J_
      · refine z_aload C dX0_ofCrates_50 rfl ?_
        refine z_getN eK3 5 2 C dX0_ofCrates_52 rfl rfl q289 (eSame1 rfl) (by decide) rfl ?_
        refine z_goto 63 C dX0_ofCrates_55 (by decide) ?_
        refine z_is (w := gOf w c2.2) (by rw [gOf, if_neg h1, if_pos h2]) ?_
        exact J_
    · refine z_aload C dX0_ofCrates_36 rfl ?_
      refine z_getN eK3 5 4 C dX0_ofCrates_38 rfl rfl q295 (eSame1 rfl) (by decide) rfl ?_
      refine z_goto 63 C dX0_ofCrates_41 (by decide) ?_
      refine z_is (w := gOf w c2.2) (by rw [gOf, if_pos h1]) ?_
      exact J_
  refine z_iadd (w := ((0 + (gOf w c0.2)) + (gOf w c1.2)) + (gOf w c2.2)) C dX0_ofCrates_63 rfl ?_
  refine z_istore_n (L2 := [some (.ref c.a), some (.int w), some (.int (((0 + (gOf w c0.2)) + (gOf w c1.2)) + (gOf w c2.2))), some (.ref it1), some (.ref c2.1)]) C dX0_ofCrates_64 rfl (Nat.le_of_ble_eq_true rfl) rfl ?_
  refine z_goto 10 C dX0_ofCrates_65 (by decide) ?_
  refine z_forget (L' := [some (.ref c.a), some (.int w), some (.int (((0 + (gOf w c0.2)) + (gOf w c1.2)) + (gOf w c2.2))), some (.ref it1), none]) ⟨Or.inr rfl, Or.inr rfl, Or.inr rfl, Or.inr rfl, Or.inl rfl, trivial⟩ ?_
  refine z_pick (Γ' := [eCrs [c0, c1], eO c2.1 3 [.int c2.2.eggs, .int c2.2.cracked, .int c2.2.sold, .int c2.2.returned, .int c2.2.all], eO it1 16 [.int (nI (2 + 1)), .int (nI 2), .int c.cm, .ref c.ca], eAL E c.ca c.cq c.cm [c0.1, c1.1, c2.1, c3.1, c4.1, c5.1], W1, eO c.a 1 [.ref c.la, .ref c.ca, .ref c.ba, .ref c.sa, .int c.u.tk, .int c.u.cm, .int c.u.dk, .int c.u.co, .int c.u.wt, .int c.u.lk], eCrs [c3, c4, c5], rs]) [2, 5, 0, 1, 3, 4, 6, 7] (ePm 8 rfl (by decide +kernel)) rfl ?_
  refine z_join 2 (b := eCrs [c0, c1, c2]) rfl rfl ?_
  show eZ x E _ [eCrs [c0, c1, c2], eO it1 16 [.int (nI (2 + 1)), .int (nI 2), .int c.cm, .ref c.ca], eAL E c.ca c.cq c.cm [c0.1, c1.1, c2.1, c3.1, c4.1, c5.1], W1, eO c.a 1 [.ref c.la, .ref c.ca, .ref c.ba, .ref c.sa, .int c.u.tk, .int c.u.cm, .int c.u.dk, .int c.u.co, .int c.u.wt, .int c.u.lk], eCrs [c3, c4, c5], rs] 10 [some (.ref c.a), some (.int w), some (.int (((0 + (gOf w c0.2)) + (gOf w c1.2)) + (gOf w c2.2))), some (.ref it1), none] [] 1 4
  refine z_aload_n C dX0_ofCrates_10 rfl rfl ?_
  refine z_callF (r := (RJ13, TJ13, 4)) (As := []) (rest := []) (Δ := [eCrs [c0, c1, c2], W1, eO c.a 1 [.ref c.la, .ref c.ca, .ref c.ba, .ref c.sa, .int c.u.tk, .int c.u.cm, .int c.u.dk, .int c.u.co, .int c.u.wt, .int c.u.lk], eCrs [c3, c4, c5], rs]) [1, 2] [0, 3, 4, 5, 6] 0 (m_AItr_hasNext hl E it1 c.ca c.cq c.cm (nI 2) [c0.1, c1.1, c2.1, c3.1, c4.1, c5.1] (Nat.le_of_ble_eq_true rfl) 3 (Nat.le_of_ble_eq_true rfl)) C dX0_ofCrates_11 rfl rfl (eIn (i := 1) rfl List.mem_cons_self) rfl rfl C.2.2.2.2.2.2.2.1.2.2.2.2.1.1 q1404 q476 q474 q68 q478 (by decide +kernel) rfl (ePm 7 rfl (by decide +kernel)) rfl rfl ⟨Nat.le_of_ble_eq_true rfl, Nat.le_of_ble_eq_true rfl⟩ (Nat.le_trans eS0 (Nat.le_of_ble_eq_true rfl)) ⟨Nat.le_of_ble_eq_true rfl, Nat.le_of_ble_eq_true rfl⟩ (fun v_ Γ_ hp_ => ?_)
  obtain ⟨rfl, rfl⟩ := hp_
  show eZ x E _ [eO it1 16 [.int (nI 3), .int (nI 2), .int c.cm, .ref c.ca], eAL E c.ca c.cq c.cm [c0.1, c1.1, c2.1, c3.1, c4.1, c5.1], eCrs [c0, c1, c2], W1, eO c.a 1 [.ref c.la, .ref c.ca, .ref c.ba, .ref c.sa, .int c.u.tk, .int c.u.cm, .int c.u.dk, .int c.u.co, .int c.u.wt, .int c.u.lk], eCrs [c3, c4, c5], rs] 16 [some (.ref c.a), some (.int w), some (.int (((0 + (gOf w c0.2)) + (gOf w c1.2)) + (gOf w c2.2))), some (.ref it1), none] [.int (eB (decide (3 < [c0.1, c1.1, c2.1, c3.1, c4.1, c5.1].length)))] 1 4
  refine z_if_eq_B 68 C dX0_ofCrates_16 (by decide) (fun h_ => absurd h_ (by simp)) (fun h_ => ?_)
  refine z_aload_n C dX0_ofCrates_19 rfl rfl ?_
  refine z_callF (r := (RJ13, TJ13, 4)) (As := []) (rest := []) (Δ := [eCrs [c0, c1, c2], W1, eO c.a 1 [.ref c.la, .ref c.ca, .ref c.ba, .ref c.sa, .int c.u.tk, .int c.u.cm, .int c.u.dk, .int c.u.co, .int c.u.wt, .int c.u.lk], eCrs [c3, c4, c5], rs]) [0, 1] [2, 3, 4, 5, 6] 0 (m_AItr_next hl E it1 c.ca c.cq c.cm (nI 2) [c0.1, c1.1, c2.1, c3.1, c4.1, c5.1] (Nat.le_of_ble_eq_true rfl) 3 c3.1 rfl) C dX0_ofCrates_20 rfl rfl (eIn (i := 0) rfl List.mem_cons_self) rfl rfl C.2.2.2.2.2.2.2.1.2.2.2.2.1.2.1 q1406 q797 q795 q68 q799 (by decide +kernel) rfl (ePm 7 rfl (by decide +kernel)) rfl rfl ⟨Nat.le_of_ble_eq_true rfl, Nat.le_of_ble_eq_true rfl⟩ (Nat.le_trans eS0 (Nat.le_of_ble_eq_true rfl)) ⟨Nat.le_of_ble_eq_true rfl, Nat.le_of_ble_eq_true rfl⟩ (fun v_ Γ_ hp_ => ?_)
  obtain ⟨rfl, rfl⟩ := hp_
  show eZ x E _ [eO it1 16 [.int (nI (3 + 1)), .int (nI 3), .int c.cm, .ref c.ca], eAL E c.ca c.cq c.cm [c0.1, c1.1, c2.1, c3.1, c4.1, c5.1], eCrs [c0, c1, c2], W1, eO c.a 1 [.ref c.la, .ref c.ca, .ref c.ba, .ref c.sa, .int c.u.tk, .int c.u.cm, .int c.u.dk, .int c.u.co, .int c.u.wt, .int c.u.lk], eCrs [c3, c4, c5], rs] 25 [some (.ref c.a), some (.int w), some (.int (((0 + (gOf w c0.2)) + (gOf w c1.2)) + (gOf w c2.2))), some (.ref it1), none] [.ref c3.1] 1 4
  refine z_cut 5 (bs := [eO c3.1 3 [.int c3.2.eggs, .int c3.2.cracked, .int c3.2.sold, .int c3.2.returned, .int c3.2.all], eCrs [c4, c5]]) rfl (by rw [eCrs_cons]; simp) rfl ?_
  show eZ x E _ [eO it1 16 [.int (nI (3 + 1)), .int (nI 3), .int c.cm, .ref c.ca], eAL E c.ca c.cq c.cm [c0.1, c1.1, c2.1, c3.1, c4.1, c5.1], eCrs [c0, c1, c2], W1, eO c.a 1 [.ref c.la, .ref c.ca, .ref c.ba, .ref c.sa, .int c.u.tk, .int c.u.cm, .int c.u.dk, .int c.u.co, .int c.u.wt, .int c.u.lk], eO c3.1 3 [.int c3.2.eggs, .int c3.2.cracked, .int c3.2.sold, .int c3.2.returned, .int c3.2.all], eCrs [c4, c5], rs] 25 [some (.ref c.a), some (.int w), some (.int (((0 + (gOf w c0.2)) + (gOf w c1.2)) + (gOf w c2.2))), some (.ref it1), none] [.ref c3.1] 1 4
  refine z_castE C dX0_ofCrates_25 (eIn (i := 5) rfl List.mem_cons_self) (show eCl[3]? = some _ from rfl) rfl q1364 ?_
  refine z_astore (L2 := [some (.ref c.a), some (.int w), some (.int (((0 + (gOf w c0.2)) + (gOf w c1.2)) + (gOf w c2.2))), some (.ref it1), some (.ref c3.1)]) C dX0_ofCrates_28 (Nat.le_of_ble_eq_true rfl) rfl ?_
  refine z_iload_n C dX0_ofCrates_30 rfl rfl ?_
  refine z_iload_n C dX0_ofCrates_31 rfl rfl ?_
  refine z_iconst (v := 3) C dX0_ofCrates_32 (by decide) ?_
  suffices J_ : eZ x E Q_ [eO it1 16 [.int (nI (3 + 1)), .int (nI 3), .int c.cm, .ref c.ca], eAL E c.ca c.cq c.cm [c0.1, c1.1, c2.1, c3.1, c4.1, c5.1], eCrs [c0, c1, c2], W1, eO c.a 1 [.ref c.la, .ref c.ca, .ref c.ba, .ref c.sa, .int c.u.tk, .int c.u.cm, .int c.u.dk, .int c.u.co, .int c.u.wt, .int c.u.lk], eO c3.1 3 [.int c3.2.eggs, .int c3.2.cracked, .int c3.2.sold, .int c3.2.returned, .int c3.2.all], eCrs [c4, c5], rs] 63 [some (.ref c.a), some (.int w), some (.int (((0 + (gOf w c0.2)) + (gOf w c1.2)) + (gOf w c2.2))), some (.ref it1), some (.ref c3.1)] [.int (gOf w c3.2), .int (((0 + (gOf w c0.2)) + (gOf w c1.2)) + (gOf w c2.2))] 1 4 by
    refine z_icmp_ne 44 C dX0_ofCrates_33 (by decide) (fun h1 => ?_) (fun h1 => ?_)
    · refine z_iload_n C dX0_ofCrates_44 rfl rfl ?_
      refine z_bipush (v := 7) C dX0_ofCrates_45 (by decide) ?_
      refine z_icmp_ne 58 C dX0_ofCrates_47 (by decide) (fun h2 => ?_) (fun h2 => ?_)
      · refine z_aload C dX0_ofCrates_58 rfl ?_
        refine z_getN eK3 5 3 C dX0_ofCrates_60 rfl rfl q292 (eSame1 rfl) (by decide) rfl ?_
        refine z_is (w := gOf w c3.2) (by rw [gOf, if_neg h1, if_neg h2]) ?_
        exact J_
      · refine z_aload C dX0_ofCrates_50 rfl ?_
        refine z_getN eK3 5 2 C dX0_ofCrates_52 rfl rfl q289 (eSame1 rfl) (by decide) rfl ?_
        refine z_goto 63 C dX0_ofCrates_55 (by decide) ?_
        refine z_is (w := gOf w c3.2) (by rw [gOf, if_neg h1, if_pos h2]) ?_
        exact J_
    · refine z_aload C dX0_ofCrates_36 rfl ?_
      refine z_getN eK3 5 4 C dX0_ofCrates_38 rfl rfl q295 (eSame1 rfl) (by decide) rfl ?_
      refine z_goto 63 C dX0_ofCrates_41 (by decide) ?_
      refine z_is (w := gOf w c3.2) (by rw [gOf, if_pos h1]) ?_
      exact J_
  refine z_iadd (w := (((0 + (gOf w c0.2)) + (gOf w c1.2)) + (gOf w c2.2)) + (gOf w c3.2)) C dX0_ofCrates_63 rfl ?_
  refine z_istore_n (L2 := [some (.ref c.a), some (.int w), some (.int ((((0 + (gOf w c0.2)) + (gOf w c1.2)) + (gOf w c2.2)) + (gOf w c3.2))), some (.ref it1), some (.ref c3.1)]) C dX0_ofCrates_64 rfl (Nat.le_of_ble_eq_true rfl) rfl ?_
  refine z_goto 10 C dX0_ofCrates_65 (by decide) ?_
  refine z_forget (L' := [some (.ref c.a), some (.int w), some (.int ((((0 + (gOf w c0.2)) + (gOf w c1.2)) + (gOf w c2.2)) + (gOf w c3.2))), some (.ref it1), none]) ⟨Or.inr rfl, Or.inr rfl, Or.inr rfl, Or.inr rfl, Or.inl rfl, trivial⟩ ?_
  refine z_pick (Γ' := [eCrs [c0, c1, c2], eO c3.1 3 [.int c3.2.eggs, .int c3.2.cracked, .int c3.2.sold, .int c3.2.returned, .int c3.2.all], eO it1 16 [.int (nI (3 + 1)), .int (nI 3), .int c.cm, .ref c.ca], eAL E c.ca c.cq c.cm [c0.1, c1.1, c2.1, c3.1, c4.1, c5.1], W1, eO c.a 1 [.ref c.la, .ref c.ca, .ref c.ba, .ref c.sa, .int c.u.tk, .int c.u.cm, .int c.u.dk, .int c.u.co, .int c.u.wt, .int c.u.lk], eCrs [c4, c5], rs]) [2, 5, 0, 1, 3, 4, 6, 7] (ePm 8 rfl (by decide +kernel)) rfl ?_
  refine z_join 2 (b := eCrs [c0, c1, c2, c3]) rfl rfl ?_
  show eZ x E _ [eCrs [c0, c1, c2, c3], eO it1 16 [.int (nI (3 + 1)), .int (nI 3), .int c.cm, .ref c.ca], eAL E c.ca c.cq c.cm [c0.1, c1.1, c2.1, c3.1, c4.1, c5.1], W1, eO c.a 1 [.ref c.la, .ref c.ca, .ref c.ba, .ref c.sa, .int c.u.tk, .int c.u.cm, .int c.u.dk, .int c.u.co, .int c.u.wt, .int c.u.lk], eCrs [c4, c5], rs] 10 [some (.ref c.a), some (.int w), some (.int ((((0 + (gOf w c0.2)) + (gOf w c1.2)) + (gOf w c2.2)) + (gOf w c3.2))), some (.ref it1), none] [] 1 4
  refine z_aload_n C dX0_ofCrates_10 rfl rfl ?_
  refine z_callF (r := (RJ13, TJ13, 4)) (As := []) (rest := []) (Δ := [eCrs [c0, c1, c2, c3], W1, eO c.a 1 [.ref c.la, .ref c.ca, .ref c.ba, .ref c.sa, .int c.u.tk, .int c.u.cm, .int c.u.dk, .int c.u.co, .int c.u.wt, .int c.u.lk], eCrs [c4, c5], rs]) [1, 2] [0, 3, 4, 5, 6] 0 (m_AItr_hasNext hl E it1 c.ca c.cq c.cm (nI 3) [c0.1, c1.1, c2.1, c3.1, c4.1, c5.1] (Nat.le_of_ble_eq_true rfl) 4 (Nat.le_of_ble_eq_true rfl)) C dX0_ofCrates_11 rfl rfl (eIn (i := 1) rfl List.mem_cons_self) rfl rfl C.2.2.2.2.2.2.2.1.2.2.2.2.1.1 q1404 q476 q474 q68 q478 (by decide +kernel) rfl (ePm 7 rfl (by decide +kernel)) rfl rfl ⟨Nat.le_of_ble_eq_true rfl, Nat.le_of_ble_eq_true rfl⟩ (Nat.le_trans eS0 (Nat.le_of_ble_eq_true rfl)) ⟨Nat.le_of_ble_eq_true rfl, Nat.le_of_ble_eq_true rfl⟩ (fun v_ Γ_ hp_ => ?_)
  obtain ⟨rfl, rfl⟩ := hp_
  show eZ x E _ [eO it1 16 [.int (nI 4), .int (nI 3), .int c.cm, .ref c.ca], eAL E c.ca c.cq c.cm [c0.1, c1.1, c2.1, c3.1, c4.1, c5.1], eCrs [c0, c1, c2, c3], W1, eO c.a 1 [.ref c.la, .ref c.ca, .ref c.ba, .ref c.sa, .int c.u.tk, .int c.u.cm, .int c.u.dk, .int c.u.co, .int c.u.wt, .int c.u.lk], eCrs [c4, c5], rs] 16 [some (.ref c.a), some (.int w), some (.int ((((0 + (gOf w c0.2)) + (gOf w c1.2)) + (gOf w c2.2)) + (gOf w c3.2))), some (.ref it1), none] [.int (eB (decide (4 < [c0.1, c1.1, c2.1, c3.1, c4.1, c5.1].length)))] 1 4
  refine z_if_eq_B 68 C dX0_ofCrates_16 (by decide) (fun h_ => absurd h_ (by simp)) (fun h_ => ?_)
  refine z_aload_n C dX0_ofCrates_19 rfl rfl ?_
  refine z_callF (r := (RJ13, TJ13, 4)) (As := []) (rest := []) (Δ := [eCrs [c0, c1, c2, c3], W1, eO c.a 1 [.ref c.la, .ref c.ca, .ref c.ba, .ref c.sa, .int c.u.tk, .int c.u.cm, .int c.u.dk, .int c.u.co, .int c.u.wt, .int c.u.lk], eCrs [c4, c5], rs]) [0, 1] [2, 3, 4, 5, 6] 0 (m_AItr_next hl E it1 c.ca c.cq c.cm (nI 3) [c0.1, c1.1, c2.1, c3.1, c4.1, c5.1] (Nat.le_of_ble_eq_true rfl) 4 c4.1 rfl) C dX0_ofCrates_20 rfl rfl (eIn (i := 0) rfl List.mem_cons_self) rfl rfl C.2.2.2.2.2.2.2.1.2.2.2.2.1.2.1 q1406 q797 q795 q68 q799 (by decide +kernel) rfl (ePm 7 rfl (by decide +kernel)) rfl rfl ⟨Nat.le_of_ble_eq_true rfl, Nat.le_of_ble_eq_true rfl⟩ (Nat.le_trans eS0 (Nat.le_of_ble_eq_true rfl)) ⟨Nat.le_of_ble_eq_true rfl, Nat.le_of_ble_eq_true rfl⟩ (fun v_ Γ_ hp_ => ?_)
  obtain ⟨rfl, rfl⟩ := hp_
  show eZ x E _ [eO it1 16 [.int (nI (4 + 1)), .int (nI 4), .int c.cm, .ref c.ca], eAL E c.ca c.cq c.cm [c0.1, c1.1, c2.1, c3.1, c4.1, c5.1], eCrs [c0, c1, c2, c3], W1, eO c.a 1 [.ref c.la, .ref c.ca, .ref c.ba, .ref c.sa, .int c.u.tk, .int c.u.cm, .int c.u.dk, .int c.u.co, .int c.u.wt, .int c.u.lk], eCrs [c4, c5], rs] 25 [some (.ref c.a), some (.int w), some (.int ((((0 + (gOf w c0.2)) + (gOf w c1.2)) + (gOf w c2.2)) + (gOf w c3.2))), some (.ref it1), none] [.ref c4.1] 1 4
  refine z_cut 5 (bs := [eO c4.1 3 [.int c4.2.eggs, .int c4.2.cracked, .int c4.2.sold, .int c4.2.returned, .int c4.2.all], eCrs [c5]]) rfl (by rw [eCrs_cons]; simp) rfl ?_
  show eZ x E _ [eO it1 16 [.int (nI (4 + 1)), .int (nI 4), .int c.cm, .ref c.ca], eAL E c.ca c.cq c.cm [c0.1, c1.1, c2.1, c3.1, c4.1, c5.1], eCrs [c0, c1, c2, c3], W1, eO c.a 1 [.ref c.la, .ref c.ca, .ref c.ba, .ref c.sa, .int c.u.tk, .int c.u.cm, .int c.u.dk, .int c.u.co, .int c.u.wt, .int c.u.lk], eO c4.1 3 [.int c4.2.eggs, .int c4.2.cracked, .int c4.2.sold, .int c4.2.returned, .int c4.2.all], eCrs [c5], rs] 25 [some (.ref c.a), some (.int w), some (.int ((((0 + (gOf w c0.2)) + (gOf w c1.2)) + (gOf w c2.2)) + (gOf w c3.2))), some (.ref it1), none] [.ref c4.1] 1 4
  refine z_castE C dX0_ofCrates_25 (eIn (i := 5) rfl List.mem_cons_self) (show eCl[3]? = some _ from rfl) rfl q1364 ?_
  refine z_astore (L2 := [some (.ref c.a), some (.int w), some (.int ((((0 + (gOf w c0.2)) + (gOf w c1.2)) + (gOf w c2.2)) + (gOf w c3.2))), some (.ref it1), some (.ref c4.1)]) C dX0_ofCrates_28 (Nat.le_of_ble_eq_true rfl) rfl ?_
  refine z_iload_n C dX0_ofCrates_30 rfl rfl ?_
  refine z_iload_n C dX0_ofCrates_31 rfl rfl ?_
  refine z_iconst (v := 3) C dX0_ofCrates_32 (by decide) ?_
  suffices J_ : eZ x E Q_ [eO it1 16 [.int (nI (4 + 1)), .int (nI 4), .int c.cm, .ref c.ca], eAL E c.ca c.cq c.cm [c0.1, c1.1, c2.1, c3.1, c4.1, c5.1], eCrs [c0, c1, c2, c3], W1, eO c.a 1 [.ref c.la, .ref c.ca, .ref c.ba, .ref c.sa, .int c.u.tk, .int c.u.cm, .int c.u.dk, .int c.u.co, .int c.u.wt, .int c.u.lk], eO c4.1 3 [.int c4.2.eggs, .int c4.2.cracked, .int c4.2.sold, .int c4.2.returned, .int c4.2.all], eCrs [c5], rs] 63 [some (.ref c.a), some (.int w), some (.int ((((0 + (gOf w c0.2)) + (gOf w c1.2)) + (gOf w c2.2)) + (gOf w c3.2))), some (.ref it1), some (.ref c4.1)] [.int (gOf w c4.2), .int ((((0 + (gOf w c0.2)) + (gOf w c1.2)) + (gOf w c2.2)) + (gOf w c3.2))] 1 4 by
    refine z_icmp_ne 44 C dX0_ofCrates_33 (by decide) (fun h1 => ?_) (fun h1 => ?_)
    · refine z_iload_n C dX0_ofCrates_44 rfl rfl ?_
      refine z_bipush (v := 7) C dX0_ofCrates_45 (by decide) ?_
      refine z_icmp_ne 58 C dX0_ofCrates_47 (by decide) (fun h2 => ?_) (fun h2 => ?_)
      · refine z_aload C dX0_ofCrates_58 rfl ?_
        refine z_getN eK3 5 3 C dX0_ofCrates_60 rfl rfl q292 (eSame1 rfl) (by decide) rfl ?_
        refine z_is (w := gOf w c4.2) (by rw [gOf, if_neg h1, if_neg h2]) ?_
        exact J_
      · refine z_aload C dX0_ofCrates_50 rfl ?_
        refine z_getN eK3 5 2 C dX0_ofCrates_52 rfl rfl q289 (eSame1 rfl) (by decide) rfl ?_
        refine z_goto 63 C dX0_ofCrates_55 (by decide) ?_
        refine z_is (w := gOf w c4.2) (by rw [gOf, if_neg h1, if_pos h2]) ?_
        exact J_
    · refine z_aload C dX0_ofCrates_36 rfl ?_
      refine z_getN eK3 5 4 C dX0_ofCrates_38 rfl rfl q295 (eSame1 rfl) (by decide) rfl ?_
      refine z_goto 63 C dX0_ofCrates_41 (by decide) ?_
      refine z_is (w := gOf w c4.2) (by rw [gOf, if_pos h1]) ?_
      exact J_
  refine z_iadd (w := ((((0 + (gOf w c0.2)) + (gOf w c1.2)) + (gOf w c2.2)) + (gOf w c3.2)) + (gOf w c4.2)) C dX0_ofCrates_63 rfl ?_
  refine z_istore_n (L2 := [some (.ref c.a), some (.int w), some (.int (((((0 + (gOf w c0.2)) + (gOf w c1.2)) + (gOf w c2.2)) + (gOf w c3.2)) + (gOf w c4.2))), some (.ref it1), some (.ref c4.1)]) C dX0_ofCrates_64 rfl (Nat.le_of_ble_eq_true rfl) rfl ?_
  refine z_goto 10 C dX0_ofCrates_65 (by decide) ?_
  refine z_forget (L' := [some (.ref c.a), some (.int w), some (.int (((((0 + (gOf w c0.2)) + (gOf w c1.2)) + (gOf w c2.2)) + (gOf w c3.2)) + (gOf w c4.2))), some (.ref it1), none]) ⟨Or.inr rfl, Or.inr rfl, Or.inr rfl, Or.inr rfl, Or.inl rfl, trivial⟩ ?_
  refine z_pick (Γ' := [eCrs [c0, c1, c2, c3], eO c4.1 3 [.int c4.2.eggs, .int c4.2.cracked, .int c4.2.sold, .int c4.2.returned, .int c4.2.all], eO it1 16 [.int (nI (4 + 1)), .int (nI 4), .int c.cm, .ref c.ca], eAL E c.ca c.cq c.cm [c0.1, c1.1, c2.1, c3.1, c4.1, c5.1], W1, eO c.a 1 [.ref c.la, .ref c.ca, .ref c.ba, .ref c.sa, .int c.u.tk, .int c.u.cm, .int c.u.dk, .int c.u.co, .int c.u.wt, .int c.u.lk], eCrs [c5], rs]) [2, 5, 0, 1, 3, 4, 6, 7] (ePm 8 rfl (by decide +kernel)) rfl ?_
  refine z_join 2 (b := eCrs [c0, c1, c2, c3, c4]) rfl rfl ?_
  show eZ x E _ [eCrs [c0, c1, c2, c3, c4], eO it1 16 [.int (nI (4 + 1)), .int (nI 4), .int c.cm, .ref c.ca], eAL E c.ca c.cq c.cm [c0.1, c1.1, c2.1, c3.1, c4.1, c5.1], W1, eO c.a 1 [.ref c.la, .ref c.ca, .ref c.ba, .ref c.sa, .int c.u.tk, .int c.u.cm, .int c.u.dk, .int c.u.co, .int c.u.wt, .int c.u.lk], eCrs [c5], rs] 10 [some (.ref c.a), some (.int w), some (.int (((((0 + (gOf w c0.2)) + (gOf w c1.2)) + (gOf w c2.2)) + (gOf w c3.2)) + (gOf w c4.2))), some (.ref it1), none] [] 1 4
  refine z_aload_n C dX0_ofCrates_10 rfl rfl ?_
  refine z_callF (r := (RJ13, TJ13, 4)) (As := []) (rest := []) (Δ := [eCrs [c0, c1, c2, c3, c4], W1, eO c.a 1 [.ref c.la, .ref c.ca, .ref c.ba, .ref c.sa, .int c.u.tk, .int c.u.cm, .int c.u.dk, .int c.u.co, .int c.u.wt, .int c.u.lk], eCrs [c5], rs]) [1, 2] [0, 3, 4, 5, 6] 0 (m_AItr_hasNext hl E it1 c.ca c.cq c.cm (nI 4) [c0.1, c1.1, c2.1, c3.1, c4.1, c5.1] (Nat.le_of_ble_eq_true rfl) 5 (Nat.le_of_ble_eq_true rfl)) C dX0_ofCrates_11 rfl rfl (eIn (i := 1) rfl List.mem_cons_self) rfl rfl C.2.2.2.2.2.2.2.1.2.2.2.2.1.1 q1404 q476 q474 q68 q478 (by decide +kernel) rfl (ePm 7 rfl (by decide +kernel)) rfl rfl ⟨Nat.le_of_ble_eq_true rfl, Nat.le_of_ble_eq_true rfl⟩ (Nat.le_trans eS0 (Nat.le_of_ble_eq_true rfl)) ⟨Nat.le_of_ble_eq_true rfl, Nat.le_of_ble_eq_true rfl⟩ (fun v_ Γ_ hp_ => ?_)
  obtain ⟨rfl, rfl⟩ := hp_
  show eZ x E _ [eO it1 16 [.int (nI 5), .int (nI 4), .int c.cm, .ref c.ca], eAL E c.ca c.cq c.cm [c0.1, c1.1, c2.1, c3.1, c4.1, c5.1], eCrs [c0, c1, c2, c3, c4], W1, eO c.a 1 [.ref c.la, .ref c.ca, .ref c.ba, .ref c.sa, .int c.u.tk, .int c.u.cm, .int c.u.dk, .int c.u.co, .int c.u.wt, .int c.u.lk], eCrs [c5], rs] 16 [some (.ref c.a), some (.int w), some (.int (((((0 + (gOf w c0.2)) + (gOf w c1.2)) + (gOf w c2.2)) + (gOf w c3.2)) + (gOf w c4.2))), some (.ref it1), none] [.int (eB (decide (5 < [c0.1, c1.1, c2.1, c3.1, c4.1, c5.1].length)))] 1 4
  refine z_if_eq_B 68 C dX0_ofCrates_16 (by decide) (fun h_ => absurd h_ (by simp)) (fun h_ => ?_)
  refine z_aload_n C dX0_ofCrates_19 rfl rfl ?_
  refine z_callF (r := (RJ13, TJ13, 4)) (As := []) (rest := []) (Δ := [eCrs [c0, c1, c2, c3, c4], W1, eO c.a 1 [.ref c.la, .ref c.ca, .ref c.ba, .ref c.sa, .int c.u.tk, .int c.u.cm, .int c.u.dk, .int c.u.co, .int c.u.wt, .int c.u.lk], eCrs [c5], rs]) [0, 1] [2, 3, 4, 5, 6] 0 (m_AItr_next hl E it1 c.ca c.cq c.cm (nI 4) [c0.1, c1.1, c2.1, c3.1, c4.1, c5.1] (Nat.le_of_ble_eq_true rfl) 5 c5.1 rfl) C dX0_ofCrates_20 rfl rfl (eIn (i := 0) rfl List.mem_cons_self) rfl rfl C.2.2.2.2.2.2.2.1.2.2.2.2.1.2.1 q1406 q797 q795 q68 q799 (by decide +kernel) rfl (ePm 7 rfl (by decide +kernel)) rfl rfl ⟨Nat.le_of_ble_eq_true rfl, Nat.le_of_ble_eq_true rfl⟩ (Nat.le_trans eS0 (Nat.le_of_ble_eq_true rfl)) ⟨Nat.le_of_ble_eq_true rfl, Nat.le_of_ble_eq_true rfl⟩ (fun v_ Γ_ hp_ => ?_)
  obtain ⟨rfl, rfl⟩ := hp_
  show eZ x E _ [eO it1 16 [.int (nI (5 + 1)), .int (nI 5), .int c.cm, .ref c.ca], eAL E c.ca c.cq c.cm [c0.1, c1.1, c2.1, c3.1, c4.1, c5.1], eCrs [c0, c1, c2, c3, c4], W1, eO c.a 1 [.ref c.la, .ref c.ca, .ref c.ba, .ref c.sa, .int c.u.tk, .int c.u.cm, .int c.u.dk, .int c.u.co, .int c.u.wt, .int c.u.lk], eCrs [c5], rs] 25 [some (.ref c.a), some (.int w), some (.int (((((0 + (gOf w c0.2)) + (gOf w c1.2)) + (gOf w c2.2)) + (gOf w c3.2)) + (gOf w c4.2))), some (.ref it1), none] [.ref c5.1] 1 4
  refine z_cut 5 (bs := [eO c5.1 3 [.int c5.2.eggs, .int c5.2.cracked, .int c5.2.sold, .int c5.2.returned, .int c5.2.all], eCrs []]) rfl (by rw [eCrs_cons]; simp) rfl ?_
  show eZ x E _ [eO it1 16 [.int (nI (5 + 1)), .int (nI 5), .int c.cm, .ref c.ca], eAL E c.ca c.cq c.cm [c0.1, c1.1, c2.1, c3.1, c4.1, c5.1], eCrs [c0, c1, c2, c3, c4], W1, eO c.a 1 [.ref c.la, .ref c.ca, .ref c.ba, .ref c.sa, .int c.u.tk, .int c.u.cm, .int c.u.dk, .int c.u.co, .int c.u.wt, .int c.u.lk], eO c5.1 3 [.int c5.2.eggs, .int c5.2.cracked, .int c5.2.sold, .int c5.2.returned, .int c5.2.all], eCrs [], rs] 25 [some (.ref c.a), some (.int w), some (.int (((((0 + (gOf w c0.2)) + (gOf w c1.2)) + (gOf w c2.2)) + (gOf w c3.2)) + (gOf w c4.2))), some (.ref it1), none] [.ref c5.1] 1 4
  refine z_castE C dX0_ofCrates_25 (eIn (i := 5) rfl List.mem_cons_self) (show eCl[3]? = some _ from rfl) rfl q1364 ?_
  refine z_astore (L2 := [some (.ref c.a), some (.int w), some (.int (((((0 + (gOf w c0.2)) + (gOf w c1.2)) + (gOf w c2.2)) + (gOf w c3.2)) + (gOf w c4.2))), some (.ref it1), some (.ref c5.1)]) C dX0_ofCrates_28 (Nat.le_of_ble_eq_true rfl) rfl ?_
  refine z_iload_n C dX0_ofCrates_30 rfl rfl ?_
  refine z_iload_n C dX0_ofCrates_31 rfl rfl ?_
  refine z_iconst (v := 3) C dX0_ofCrates_32 (by decide) ?_
  suffices J_ : eZ x E Q_ [eO it1 16 [.int (nI (5 + 1)), .int (nI 5), .int c.cm, .ref c.ca], eAL E c.ca c.cq c.cm [c0.1, c1.1, c2.1, c3.1, c4.1, c5.1], eCrs [c0, c1, c2, c3, c4], W1, eO c.a 1 [.ref c.la, .ref c.ca, .ref c.ba, .ref c.sa, .int c.u.tk, .int c.u.cm, .int c.u.dk, .int c.u.co, .int c.u.wt, .int c.u.lk], eO c5.1 3 [.int c5.2.eggs, .int c5.2.cracked, .int c5.2.sold, .int c5.2.returned, .int c5.2.all], eCrs [], rs] 63 [some (.ref c.a), some (.int w), some (.int (((((0 + (gOf w c0.2)) + (gOf w c1.2)) + (gOf w c2.2)) + (gOf w c3.2)) + (gOf w c4.2))), some (.ref it1), some (.ref c5.1)] [.int (gOf w c5.2), .int (((((0 + (gOf w c0.2)) + (gOf w c1.2)) + (gOf w c2.2)) + (gOf w c3.2)) + (gOf w c4.2))] 1 4 by
    refine z_icmp_ne 44 C dX0_ofCrates_33 (by decide) (fun h1 => ?_) (fun h1 => ?_)
    · refine z_iload_n C dX0_ofCrates_44 rfl rfl ?_
      refine z_bipush (v := 7) C dX0_ofCrates_45 (by decide) ?_
      refine z_icmp_ne 58 C dX0_ofCrates_47 (by decide) (fun h2 => ?_) (fun h2 => ?_)
      · refine z_aload C dX0_ofCrates_58 rfl ?_
        refine z_getN eK3 5 3 C dX0_ofCrates_60 rfl rfl q292 (eSame1 rfl) (by decide) rfl ?_
        refine z_is (w := gOf w c5.2) (by rw [gOf, if_neg h1, if_neg h2]) ?_
        exact J_
      · refine z_aload C dX0_ofCrates_50 rfl ?_
        refine z_getN eK3 5 2 C dX0_ofCrates_52 rfl rfl q289 (eSame1 rfl) (by decide) rfl ?_
        refine z_goto 63 C dX0_ofCrates_55 (by decide) ?_
        refine z_is (w := gOf w c5.2) (by rw [gOf, if_neg h1, if_pos h2]) ?_
        exact J_
    · refine z_aload C dX0_ofCrates_36 rfl ?_
      refine z_getN eK3 5 4 C dX0_ofCrates_38 rfl rfl q295 (eSame1 rfl) (by decide) rfl ?_
      refine z_goto 63 C dX0_ofCrates_41 (by decide) ?_
      refine z_is (w := gOf w c5.2) (by rw [gOf, if_pos h1]) ?_
      exact J_
  refine z_iadd (w := (((((0 + (gOf w c0.2)) + (gOf w c1.2)) + (gOf w c2.2)) + (gOf w c3.2)) + (gOf w c4.2)) + (gOf w c5.2)) C dX0_ofCrates_63 rfl ?_
  refine z_istore_n (L2 := [some (.ref c.a), some (.int w), some (.int ((((((0 + (gOf w c0.2)) + (gOf w c1.2)) + (gOf w c2.2)) + (gOf w c3.2)) + (gOf w c4.2)) + (gOf w c5.2))), some (.ref it1), some (.ref c5.1)]) C dX0_ofCrates_64 rfl (Nat.le_of_ble_eq_true rfl) rfl ?_
  refine z_goto 10 C dX0_ofCrates_65 (by decide) ?_
  refine z_forget (L' := [some (.ref c.a), some (.int w), some (.int ((((((0 + (gOf w c0.2)) + (gOf w c1.2)) + (gOf w c2.2)) + (gOf w c3.2)) + (gOf w c4.2)) + (gOf w c5.2))), some (.ref it1), none]) ⟨Or.inr rfl, Or.inr rfl, Or.inr rfl, Or.inr rfl, Or.inl rfl, trivial⟩ ?_
  refine z_pick (Γ' := [eCrs [c0, c1, c2, c3, c4], eO c5.1 3 [.int c5.2.eggs, .int c5.2.cracked, .int c5.2.sold, .int c5.2.returned, .int c5.2.all], eO it1 16 [.int (nI (5 + 1)), .int (nI 5), .int c.cm, .ref c.ca], eAL E c.ca c.cq c.cm [c0.1, c1.1, c2.1, c3.1, c4.1, c5.1], W1, eO c.a 1 [.ref c.la, .ref c.ca, .ref c.ba, .ref c.sa, .int c.u.tk, .int c.u.cm, .int c.u.dk, .int c.u.co, .int c.u.wt, .int c.u.lk], eCrs [], rs]) [2, 5, 0, 1, 3, 4, 6, 7] (ePm 8 rfl (by decide +kernel)) rfl ?_
  refine z_join 2 (b := eCrs [c0, c1, c2, c3, c4, c5]) rfl rfl ?_
  show eZ x E _ [eCrs [c0, c1, c2, c3, c4, c5], eO it1 16 [.int (nI (5 + 1)), .int (nI 5), .int c.cm, .ref c.ca], eAL E c.ca c.cq c.cm [c0.1, c1.1, c2.1, c3.1, c4.1, c5.1], W1, eO c.a 1 [.ref c.la, .ref c.ca, .ref c.ba, .ref c.sa, .int c.u.tk, .int c.u.cm, .int c.u.dk, .int c.u.co, .int c.u.wt, .int c.u.lk], eCrs [], rs] 10 [some (.ref c.a), some (.int w), some (.int ((((((0 + (gOf w c0.2)) + (gOf w c1.2)) + (gOf w c2.2)) + (gOf w c3.2)) + (gOf w c4.2)) + (gOf w c5.2))), some (.ref it1), none] [] 1 4
  refine z_aload_n C dX0_ofCrates_10 rfl rfl ?_
  refine z_callF (r := (RJ13, TJ13, 4)) (As := []) (rest := []) (Δ := [eCrs [c0, c1, c2, c3, c4, c5], W1, eO c.a 1 [.ref c.la, .ref c.ca, .ref c.ba, .ref c.sa, .int c.u.tk, .int c.u.cm, .int c.u.dk, .int c.u.co, .int c.u.wt, .int c.u.lk], eCrs [], rs]) [1, 2] [0, 3, 4, 5, 6] 0 (m_AItr_hasNext hl E it1 c.ca c.cq c.cm (nI 5) [c0.1, c1.1, c2.1, c3.1, c4.1, c5.1] (Nat.le_of_ble_eq_true rfl) 6 (Nat.le_of_ble_eq_true rfl)) C dX0_ofCrates_11 rfl rfl (eIn (i := 1) rfl List.mem_cons_self) rfl rfl C.2.2.2.2.2.2.2.1.2.2.2.2.1.1 q1404 q476 q474 q68 q478 (by decide +kernel) rfl (ePm 7 rfl (by decide +kernel)) rfl rfl ⟨Nat.le_of_ble_eq_true rfl, Nat.le_of_ble_eq_true rfl⟩ (Nat.le_trans eS0 (Nat.le_of_ble_eq_true rfl)) ⟨Nat.le_of_ble_eq_true rfl, Nat.le_of_ble_eq_true rfl⟩ (fun v_ Γ_ hp_ => ?_)
  obtain ⟨rfl, rfl⟩ := hp_
  show eZ x E _ [eO it1 16 [.int (nI 6), .int (nI 5), .int c.cm, .ref c.ca], eAL E c.ca c.cq c.cm [c0.1, c1.1, c2.1, c3.1, c4.1, c5.1], eCrs [c0, c1, c2, c3, c4, c5], W1, eO c.a 1 [.ref c.la, .ref c.ca, .ref c.ba, .ref c.sa, .int c.u.tk, .int c.u.cm, .int c.u.dk, .int c.u.co, .int c.u.wt, .int c.u.lk], eCrs [], rs] 16 [some (.ref c.a), some (.int w), some (.int ((((((0 + (gOf w c0.2)) + (gOf w c1.2)) + (gOf w c2.2)) + (gOf w c3.2)) + (gOf w c4.2)) + (gOf w c5.2))), some (.ref it1), none] [.int (eB (decide (6 < [c0.1, c1.1, c2.1, c3.1, c4.1, c5.1].length)))] 1 4
  refine z_if_eq_B 68 C dX0_ofCrates_16 (by decide) (fun h_ => ?_) (fun h_ => absurd h_ (by simp))
  refine z_pick (Γ' := [eO it1 16 [.int (nI 6), .int (nI 5), .int c.cm, .ref c.ca], eAL E c.ca c.cq c.cm [c0.1, c1.1, c2.1, c3.1, c4.1, c5.1], eCrs [c0, c1, c2, c3, c4, c5], W1, eO c.a 1 [.ref c.la, .ref c.ca, .ref c.ba, .ref c.sa, .int c.u.tk, .int c.u.cm, .int c.u.dk, .int c.u.co, .int c.u.wt, .int c.u.lk], eCrs [], rs]) [0, 1, 2, 3, 4, 5, 6] (ePm 7 rfl (by decide +kernel)) rfl ?_
  refine z_drop ?_
  show eZ x E _ [eAL E c.ca c.cq c.cm [c0.1, c1.1, c2.1, c3.1, c4.1, c5.1], eCrs [c0, c1, c2, c3, c4, c5], W1, eO c.a 1 [.ref c.la, .ref c.ca, .ref c.ba, .ref c.sa, .int c.u.tk, .int c.u.cm, .int c.u.dk, .int c.u.co, .int c.u.wt, .int c.u.lk], eCrs [], rs] 68 [some (.ref c.a), some (.int w), some (.int ((((((0 + (gOf w c0.2)) + (gOf w c1.2)) + (gOf w c2.2)) + (gOf w c3.2)) + (gOf w c4.2)) + (gOf w c5.2))), some (.ref it1), none] [] 1 4
  refine z_pick (Γ' := [eCrs [], eAL E c.ca c.cq c.cm [c0.1, c1.1, c2.1, c3.1, c4.1, c5.1], eCrs [c0, c1, c2, c3, c4, c5], W1, eO c.a 1 [.ref c.la, .ref c.ca, .ref c.ba, .ref c.sa, .int c.u.tk, .int c.u.cm, .int c.u.dk, .int c.u.co, .int c.u.wt, .int c.u.lk], rs]) [4, 0, 1, 2, 3, 5] (ePm 6 rfl (by decide +kernel)) rfl ?_
  refine z_drop ?_
  show eZ x E _ [eAL E c.ca c.cq c.cm [c0.1, c1.1, c2.1, c3.1, c4.1, c5.1], eCrs [c0, c1, c2, c3, c4, c5], W1, eO c.a 1 [.ref c.la, .ref c.ca, .ref c.ba, .ref c.sa, .int c.u.tk, .int c.u.cm, .int c.u.dk, .int c.u.co, .int c.u.wt, .int c.u.lk], rs] 68 [some (.ref c.a), some (.int w), some (.int ((((((0 + (gOf w c0.2)) + (gOf w c1.2)) + (gOf w c2.2)) + (gOf w c3.2)) + (gOf w c4.2)) + (gOf w c5.2))), some (.ref it1), none] [] 1 4
  refine z_cut 2 (bs := [eAL E c.la c.lq c.lm (lA c.lns), eLans 0 c.lns, eLL c.ba c.bm (bX c.bk), eIA E c.sa 4 c.st]) rfl hW1 rfl ?_
  show eZ x E _ [eAL E c.ca c.cq c.cm [c0.1, c1.1, c2.1, c3.1, c4.1, c5.1], eCrs [c0, c1, c2, c3, c4, c5], eAL E c.la c.lq c.lm (lA c.lns), eLans 0 c.lns, eLL c.ba c.bm (bX c.bk), eIA E c.sa 4 c.st, eO c.a 1 [.ref c.la, .ref c.ca, .ref c.ba, .ref c.sa, .int c.u.tk, .int c.u.cm, .int c.u.dk, .int c.u.co, .int c.u.wt, .int c.u.lk], rs] 68 [some (.ref c.a), some (.int w), some (.int ((((((0 + (gOf w c0.2)) + (gOf w c1.2)) + (gOf w c2.2)) + (gOf w c3.2)) + (gOf w c4.2)) + (gOf w c5.2))), some (.ref it1), none] [] 1 4
  refine z_iload_n C dX0_ofCrates_68 rfl rfl ?_
  refine z_pick (Γ' := [eO c.a 1 [.ref c.la, .ref c.ca, .ref c.ba, .ref c.sa, .int c.u.tk, .int c.u.cm, .int c.u.dk, .int c.u.co, .int c.u.wt, .int c.u.lk], eAL E c.la c.lq c.lm (lA c.lns), eLans 0 c.lns, eAL E c.ca c.cq c.cm [c0.1, c1.1, c2.1, c3.1, c4.1, c5.1], eCrs [c0, c1, c2, c3, c4, c5], eLL c.ba c.bm (bX c.bk), eIA E c.sa 4 c.st, rs]) [6, 2, 3, 0, 1, 4, 5, 7] (ePm 8 rfl (by decide +kernel)) rfl ?_
  refine z_join 7 (b := eMac E c) (by symm; rw [eMac_cut (c := c), hcrs]; rfl) rfl ?_
  show eZ x E _ [eMac E c, rs] 69 [some (.ref c.a), some (.int w), some (.int ((((((0 + (gOf w c0.2)) + (gOf w c1.2)) + (gOf w c2.2)) + (gOf w c3.2)) + (gOf w c4.2)) + (gOf w c5.2))), some (.ref it1), none] [.int ((((((0 + (gOf w c0.2)) + (gOf w c1.2)) + (gOf w c2.2)) + (gOf w c3.2)) + (gOf w c4.2)) + (gOf w c5.2))] 1 4
  refine z_pick (Γ' := [eMac E c, rs]) [0, 1] (ePm 2 rfl (by decide +kernel)) rfl ?_
  subst hQ_
  exact z_ret (Γ := [eMac E c]) C dX0_ofCrates_69 rfl rfl (Nat.le_of_ble_eq_true rfl) (Nat.le_of_ble_eq_true rfl) ⟨by rw [gOfC, Cm.abs, hcrs]; rfl, rfl⟩
