/-! ===== the machine: before the light ===== -/
set_option maxRecDepth 100000
abbrev Mv : Type := Int32 × Int32 × Int32 × Int32 × Int32 × Int32
abbrev Mv.tk (g : Mv) : Int32 := g.1
abbrev Mv.cm (g : Mv) : Int32 := g.2.1
abbrev Mv.dk (g : Mv) : Int32 := g.2.2.1
abbrev Mv.co (g : Mv) : Int32 := g.2.2.2.1
abbrev Mv.wt (g : Mv) : Int32 := g.2.2.2.2.1
abbrev Mv.lk (g : Mv) : Int32 := g.2.2.2.2.2

abbrev eMo (a la ca ba sa : Nat) (u : Mv) : va_W := eO a 1 [.ref la, .ref ca, .ref ba, .ref sa, .int u.tk, .int u.cm, .int u.dk, .int u.co, .int u.wt, .int u.lk]
abbrev eDk (E : eEn) (q : Nat) (r1 r2 : Option Nat) : va_W := eO q 8 [.int 2, .ref q, va_rf r1, va_rf r2, .ref (E.2.2.2 15), .null, .int 0]
abbrev eBk (E : eEn) (q : Nat) (r1 r2 : Option Nat) : va_W := eO q 9 [.int 3, .ref q, va_rf r1, va_rf r2, .ref (E.2.2.2 15), .null, .int 0]
abbrev eUg (E : eEn) (q b : Nat) (g : Nat) (r1 r2 : Option Nat) : va_W := eO q 7 [.ref b, va_rf r1, va_rf r2, .ref (E.2.2.2 g), .null, .int 0]
def nN (v : Int32) : Nat := v.toInt.toNat
def gSeenS (st : Nat → Int32) (tu : Int32) : Int32 := gSeenL tu (nN (st 0))
def gU (v : Int32) (k : Int32) : Int32 := (v.toUInt32 >>> (k.toUInt32 &&& Int32.toUInt32 31)).toInt32
def gB1 (v : Int32) : Int32 := v - (gU v 1 &&& 1431655765)
def gB2 (v : Int32) : Int32 := (v &&& 858993459) + (gU v 2 &&& 858993459)
def gB3 (v : Int32) : Int32 := (v + gU v 4) &&& 252645135
def gB4 (v : Int32) : Int32 := v + gU v 8
def gB5 (v : Int32) : Int32 := v + gU v 16
def gBits (v : Int32) : Int32 := gB5 (gB4 (gB3 (gB2 (gB1 v)))) &&& 63
/-- what bars an egg: 2 it is dark, 3 it is broken -/
def gBar (st : Nat → Int32) (v : Lv) (g : Eg) : Int32 := if v.li < g.sh then 2 else if gCrk g = true ∧ (gSeenS st v.tu >>> (g.c &&& 31)) &&& 1 = 1 then 3 else 0
def gSp (st : Nat → Int32) (v : Lv) (g : Eg) : Int32 := if g.sh + 40 < v.li then 0 else gBits (gSeenS st v.tu &&& g.sp)
def gGr (st : Nat → Int32) (v : Lv) (g : Eg) : Int32 := if g.y = 2 then 5 else if st 3 < gSp st v g then 4 else gByW g
def gStE (v : Lv) (g : Eg) : Eg := (g.w, g.sh, g.y, g.c, g.sp ||| (if 0 < v.st then 1 else 0), g.t)
def gStL (v : Lv) : Lv := (v.li, v.tu, eMax 0 (v.st - 1), v.gd, v.ck)

set_option maxHeartbeats 4000000 in
theorem m_bitCount {l : Launch} (hl : l.stackTraces = false) (E : eEn) (v : Int32) : eMet l E yJ25_bitCount (ws_ yJ25_bitCount cJ25_bitCount 1 (some .int)) ({ frames := 0, cells := 0, slots := 0, locals := 0 }) [.int v] [] (fun w Γ => w = some (.int (gBits v)) ∧ Γ = []) := by
  refine eStart (cc := cJ25_bitCount) (nL := 1) (L := [some (.int v)]) hl (by decide) rfl (List.forall_mem_cons.mpr ⟨rfl, (fun _ h => absurd h List.not_mem_nil)⟩) (Nat.le_of_ble_eq_true rfl) ?_
  intro x rs C
  show eZ x E (eQ x E (fun w Γ => w = some (.int (gBits v)) ∧ Γ = []) rs) [rs] 0 [some (.int v)] [] 0 0
  generalize hQ_ : eQ x E (fun w Γ => w = some (.int (gBits v)) ∧ Γ = []) rs = Q_
  refine z_iload_n C dJ25_bitCount_0 rfl rfl ?_
  refine z_iload_n C dJ25_bitCount_1 rfl rfl ?_
  refine z_iconst (v := 1) C dJ25_bitCount_2 (by decide) ?_
  refine z_iushr (w := gU v 1) C dJ25_bitCount_3 rfl ?_
  refine z_ldcw C dJ25_bitCount_4 rfl q1163 ?_
  refine z_iand (w := (gU v 1) &&& 1431655765) C dJ25_bitCount_7 rfl ?_
  refine z_isub (w := gB1 v) C dJ25_bitCount_8 rfl ?_
  refine z_istore_n (L2 := [some (.int (gB1 v))]) C dJ25_bitCount_9 rfl (Nat.le_of_ble_eq_true rfl) rfl ?_
  refine z_iload_n C dJ25_bitCount_10 rfl rfl ?_
  refine z_ldcw C dJ25_bitCount_11 rfl q1164 ?_
  refine z_iand (w := (gB1 v) &&& 858993459) C dJ25_bitCount_14 rfl ?_
  refine z_iload_n C dJ25_bitCount_15 rfl rfl ?_
  refine z_iconst (v := 2) C dJ25_bitCount_16 (by decide) ?_
  refine z_iushr (w := gU (gB1 v) 2) C dJ25_bitCount_17 rfl ?_
  refine z_ldcw C dJ25_bitCount_18 rfl q1164 ?_
  refine z_iand (w := (gU (gB1 v) 2) &&& 858993459) C dJ25_bitCount_21 rfl ?_
  refine z_iadd (w := gB2 (gB1 v)) C dJ25_bitCount_22 rfl ?_
  refine z_istore_n (L2 := [some (.int (gB2 (gB1 v)))]) C dJ25_bitCount_23 rfl (Nat.le_of_ble_eq_true rfl) rfl ?_
  refine z_iload_n C dJ25_bitCount_24 rfl rfl ?_
  refine z_iload_n C dJ25_bitCount_25 rfl rfl ?_
  refine z_iconst (v := 4) C dJ25_bitCount_26 (by decide) ?_
  refine z_iushr (w := gU (gB2 (gB1 v)) 4) C dJ25_bitCount_27 rfl ?_
  refine z_iadd (w := (gB2 (gB1 v)) + (gU (gB2 (gB1 v)) 4)) C dJ25_bitCount_28 rfl ?_
  refine z_ldcw C dJ25_bitCount_29 rfl q1165 ?_
  refine z_iand (w := gB3 (gB2 (gB1 v))) C dJ25_bitCount_32 rfl ?_
  refine z_istore_n (L2 := [some (.int (gB3 (gB2 (gB1 v))))]) C dJ25_bitCount_33 rfl (Nat.le_of_ble_eq_true rfl) rfl ?_
  refine z_iload_n C dJ25_bitCount_34 rfl rfl ?_
  refine z_iload_n C dJ25_bitCount_35 rfl rfl ?_
  refine z_bipush (v := 8) C dJ25_bitCount_36 (by decide) ?_
  refine z_iushr (w := gU (gB3 (gB2 (gB1 v))) 8) C dJ25_bitCount_38 rfl ?_
  refine z_iadd (w := gB4 (gB3 (gB2 (gB1 v)))) C dJ25_bitCount_39 rfl ?_
  refine z_istore_n (L2 := [some (.int (gB4 (gB3 (gB2 (gB1 v)))))]) C dJ25_bitCount_40 rfl (Nat.le_of_ble_eq_true rfl) rfl ?_
  refine z_iload_n C dJ25_bitCount_41 rfl rfl ?_
  refine z_iload_n C dJ25_bitCount_42 rfl rfl ?_
  refine z_bipush (v := 16) C dJ25_bitCount_43 (by decide) ?_
  refine z_iushr (w := gU (gB4 (gB3 (gB2 (gB1 v)))) 16) C dJ25_bitCount_45 rfl ?_
  refine z_iadd (w := gB5 (gB4 (gB3 (gB2 (gB1 v))))) C dJ25_bitCount_46 rfl ?_
  refine z_istore_n (L2 := [some (.int (gB5 (gB4 (gB3 (gB2 (gB1 v))))))]) C dJ25_bitCount_47 rfl (Nat.le_of_ble_eq_true rfl) rfl ?_
  refine z_iload_n C dJ25_bitCount_48 rfl rfl ?_
  refine z_bipush (v := 63) C dJ25_bitCount_49 (by decide) ?_
  refine z_iand (w := gBits v) C dJ25_bitCount_51 rfl ?_
  subst hQ_
  exact z_ret (Γ := []) C dJ25_bitCount_52 rfl rfl (Nat.le_of_ble_eq_true rfl) (Nat.le_of_ble_eq_true rfl) ⟨rfl, rfl⟩

set_option maxHeartbeats 4000000 in
theorem m_lit {l : Launch} (hl : l.stackTraces = false) (E : eEn) (a la ca ba sa : Nat) (u : Mv) (st : Nat → Int32) (h0 : st 0 = nI (nN (st 0))) (hN : nN (st 0) ≤ 100) (b qa : Nat) (nu : Int32) (v : Lv) (j : Nat) (g : Eg) : eMetX l E yX1_lit (ws_ yX1_lit cX1_lit 6 (some .int)) ({ frames := 7, cells := 1, slots := 7, locals := 123 }) [.ref a, .ref b, .ref j] [eO a 1 [.ref la, .ref ca, .ref ba, .ref sa, .int u.tk, .int u.cm, .int u.dk, .int u.co, .int u.wt, .int u.lk], eIA E sa 4 st, eO b 2 [.int nu, .ref qa, .int v.li, .int v.tu, .int v.st, .int v.gd, .int v.ck], eO j 5 [.int g.w, .int g.sh, .int g.y, .int g.c, .int g.sp, .int g.t]] (fun w Γ => gBar st v g = 0 ∧ w = some (.int (gGr st v g)) ∧ Γ = [eMo a la ca ba sa u, eIA E sa 4 st, eLo b qa nu v, eEg j g]) (fun q En Γ => (gBar st v g = 2 ∧ En = RX9 ∧ ∃ r1 r2, Γ = [eDk E q r1 r2, eMo a la ca ba sa u, eIA E sa 4 st, eLo b qa nu v, eEg j g]) ∨ (gBar st v g = 3 ∧ En = RX10 ∧ ∃ r1 r2, Γ = [eBk E q r1 r2, eMo a la ca ba sa u, eIA E sa 4 st, eLo b qa nu v, eEg j g])) := by
  refine eStartX (cc := cX1_lit) (nL := 6) (L := [some (.ref a), some (.ref b), some (.ref j), none, none, none]) hl (by decide) rfl (List.forall_mem_cons.mpr ⟨rfl, (List.forall_mem_cons.mpr ⟨rfl, (List.forall_mem_cons.mpr ⟨rfl, (fun _ h => absurd h List.not_mem_nil)⟩)⟩)⟩) (Nat.le_of_ble_eq_true rfl) ?_
  intro x rs C hT
  show eZ x E (eQX x E (fun w Γ => gBar st v g = 0 ∧ w = some (.int (gGr st v g)) ∧ Γ = [eMo a la ca ba sa u, eIA E sa 4 st, eLo b qa nu v, eEg j g]) (fun q En Γ => (gBar st v g = 2 ∧ En = RX9 ∧ ∃ r1 r2, Γ = [eDk E q r1 r2, eMo a la ca ba sa u, eIA E sa 4 st, eLo b qa nu v, eEg j g]) ∨ (gBar st v g = 3 ∧ En = RX10 ∧ ∃ r1 r2, Γ = [eBk E q r1 r2, eMo a la ca ba sa u, eIA E sa 4 st, eLo b qa nu v, eEg j g])) rs) [eO a 1 [.ref la, .ref ca, .ref ba, .ref sa, .int u.tk, .int u.cm, .int u.dk, .int u.co, .int u.wt, .int u.lk], eIA E sa 4 st, eO b 2 [.int nu, .ref qa, .int v.li, .int v.tu, .int v.st, .int v.gd, .int v.ck], eO j 5 [.int g.w, .int g.sh, .int g.y, .int g.c, .int g.sp, .int g.t], rs] 0 [some (.ref a), some (.ref b), some (.ref j), none, none, none] [] 0 0
  generalize hQ_ : eQX x E (fun w Γ => gBar st v g = 0 ∧ w = some (.int (gGr st v g)) ∧ Γ = [eMo a la ca ba sa u, eIA E sa 4 st, eLo b qa nu v, eEg j g]) (fun q En Γ => (gBar st v g = 2 ∧ En = RX9 ∧ ∃ r1 r2, Γ = [eDk E q r1 r2, eMo a la ca ba sa u, eIA E sa 4 st, eLo b qa nu v, eEg j g]) ∨ (gBar st v g = 3 ∧ En = RX10 ∧ ∃ r1 r2, Γ = [eBk E q r1 r2, eMo a la ca ba sa u, eIA E sa 4 st, eLo b qa nu v, eEg j g])) rs = Q_
  refine z_aload_n C dX1_lit_0 rfl rfl ?_
  refine z_aload_n C dX1_lit_1 rfl rfl ?_
  refine z_get eK1 0 3 C dX1_lit_2 rfl rfl q313 (eSame1 rfl) (by decide) rfl ?_
  refine z_iconst (v := 0) C dX1_lit_5 (by decide) ?_
  refine z_iald (m := 0) (v := nI (nN (st 0))) 1 C dX1_lit_6 rfl rfl (by decide) (by decide) h0 ?_
  refine z_callV (r := (RX2, TX2, 7)) (As := [.int (nI (nN (st 0)))]) (rest := []) (Δ := [eO a 1 [.ref la, .ref ca, .ref ba, .ref sa, .int u.tk, .int u.cm, .int u.dk, .int u.co, .int u.wt, .int u.lk], eIA E sa 4 st, eO j 5 [.int g.w, .int g.sh, .int g.y, .int g.c, .int g.sp, .int g.t], rs]) [2] [0, 1, 3, 4] 1 (m_Lane_seen hl E b qa nu v (nN (st 0)) hN) C dX1_lit_7 rfl rfl (eIn (i := 2) rfl List.mem_cons_self) rfl rfl q1113 q1114 q1115 q56 q1116 (by decide +kernel) rfl (ePm 5 rfl (by decide +kernel)) rfl rfl ⟨Nat.le_of_ble_eq_true rfl, Nat.le_of_ble_eq_true rfl⟩ (Nat.le_trans eS0 (Nat.le_of_ble_eq_true rfl)) ⟨Nat.le_of_ble_eq_true rfl, Nat.le_of_ble_eq_true rfl⟩ (fun v_ Γ_ hp_ => ?_)
  obtain ⟨rfl, rfl⟩ := hp_
  show eZ x E _ [eO b 2 [.int nu, .ref qa, .int v.li, .int v.tu, .int v.st, .int v.gd, .int v.ck], eO a 1 [.ref la, .ref ca, .ref ba, .ref sa, .int u.tk, .int u.cm, .int u.dk, .int u.co, .int u.wt, .int u.lk], eIA E sa 4 st, eO j 5 [.int g.w, .int g.sh, .int g.y, .int g.c, .int g.sp, .int g.t], rs] 10 [some (.ref a), some (.ref b), some (.ref j), none, none, none] [.int (gSeenS st v.tu)] 0 0
  refine z_istore_n (L2 := [some (.ref a), some (.ref b), some (.ref j), some (.int (gSeenS st v.tu)), none, none]) C dX1_lit_10 rfl (Nat.le_of_ble_eq_true rfl) rfl ?_
  refine z_aload_n C dX1_lit_11 rfl rfl ?_
  refine z_getN eK2 0 2 C dX1_lit_12 rfl rfl q176 (eSame1 rfl) (by decide) rfl ?_
  refine z_aload_n C dX1_lit_15 rfl rfl ?_
  refine z_getN eK5 3 1 C dX1_lit_16 rfl rfl q911 (eSame1 rfl) (by decide) rfl ?_
  refine z_icmp_ge 30 C dX1_lit_19 (by decide) (fun h1 => ?_) (fun h1 => ?_)
  · have hb1 : ¬ v.li < g.sh := Int32.not_lt.mpr h1
    refine z_aload_n C dX1_lit_30 rfl rfl ?_
    refine z_callV (r := (RX5, TX5, 6)) (As := []) (rest := []) (Δ := [eO b 2 [.int nu, .ref qa, .int v.li, .int v.tu, .int v.st, .int v.gd, .int v.ck], eO a 1 [.ref la, .ref ca, .ref ba, .ref sa, .int u.tk, .int u.cm, .int u.dk, .int u.co, .int u.wt, .int u.lk], eIA E sa 4 st, rs]) [3] [0, 1, 2, 4] 0 (m_isCracked hl E j g) C dX1_lit_31 rfl rfl (eIn (i := 3) rfl List.mem_cons_self) rfl rfl q1140 q1141 q1142 q80 q1143 (by decide +kernel) rfl (ePm 5 rfl (by decide +kernel)) rfl rfl ⟨Nat.le_of_ble_eq_true rfl, Nat.le_of_ble_eq_true rfl⟩ (Nat.le_trans eS0 (Nat.le_of_ble_eq_true rfl)) ⟨Nat.le_of_ble_eq_true rfl, Nat.le_of_ble_eq_true rfl⟩ (fun v_ Γ_ hp_ => ?_)
    obtain ⟨rfl, rfl⟩ := hp_
    show eZ x E _ [eO j 5 [.int g.w, .int g.sh, .int g.y, .int g.c, .int g.sp, .int g.t], eO b 2 [.int nu, .ref qa, .int v.li, .int v.tu, .int v.st, .int v.gd, .int v.ck], eO a 1 [.ref la, .ref ca, .ref ba, .ref sa, .int u.tk, .int u.cm, .int u.dk, .int u.co, .int u.wt, .int u.lk], eIA E sa 4 st, rs] 34 [some (.ref a), some (.ref b), some (.ref j), some (.int (gSeenS st v.tu)), none, none] [.int (eB (gCrk g))] 0 0
    have K : gBar st v g = 0 → eZ x E Q_ [eO a 1 [.ref la, .ref ca, .ref ba, .ref sa, .int u.tk, .int u.cm, .int u.dk, .int u.co, .int u.wt, .int u.lk], eIA E sa 4 st, eO b 2 [.int nu, .ref qa, .int v.li, .int v.tu, .int v.st, .int v.gd, .int v.ck], eO j 5 [.int g.w, .int g.sh, .int g.y, .int g.c, .int g.sp, .int g.t], rs] 57 [some (.ref a), some (.ref b), some (.ref j), some (.int (gSeenS st v.tu)), none, none] [] 0 0 := by
      intro hb
      refine z_aload_n C dX1_lit_57 rfl rfl ?_
      refine z_getN eK2 2 2 C dX1_lit_58 rfl rfl q176 (eSame1 rfl) (by decide) rfl ?_
      refine z_aload_n C dX1_lit_61 rfl rfl ?_
      refine z_getN eK5 3 1 C dX1_lit_62 rfl rfl q911 (eSame1 rfl) (by decide) rfl ?_
      refine z_bipush (v := 40) C dX1_lit_65 (by decide) ?_
      refine z_iadd (w := g.sh + 40) C dX1_lit_67 rfl ?_
      suffices J_ : eZ x E Q_ [eO a 1 [.ref la, .ref ca, .ref ba, .ref sa, .int u.tk, .int u.cm, .int u.dk, .int u.co, .int u.wt, .int u.lk], eIA E sa 4 st, eO b 2 [.int nu, .ref qa, .int v.li, .int v.tu, .int v.st, .int v.gd, .int v.ck], eO j 5 [.int g.w, .int g.sh, .int g.y, .int g.c, .int g.sp, .int g.t], rs] 76 [some (.ref a), some (.ref b), some (.ref j), some (.int (gSeenS st v.tu)), none, none] [.int (eB (decide (g.sh + 40 < v.li)))] 0 0 by
        refine z_icmp_le 75 C dX1_lit_68 (by decide) (fun h_ => ?_) (fun h_ => ?_)
        · refine z_iconst (v := 0) C dX1_lit_75 (by decide) ?_
          refine z_is (w := eB (decide (g.sh + 40 < v.li))) (by rw [decide_eq_false (show ¬ g.sh + 40 < v.li from Int32.not_lt.mpr h_)]; rfl) ?_
          exact J_
        · refine z_iconst (v := 1) C dX1_lit_71 (by decide) ?_
          refine z_goto 76 C dX1_lit_72 (by decide) ?_
          refine z_is (w := eB (decide (g.sh + 40 < v.li))) (by rw [decide_eq_true (Int32.not_le.mp h_)]; rfl) ?_
          exact J_
      refine z_istore (L2 := [some (.ref a), some (.ref b), some (.ref j), some (.int (gSeenS st v.tu)), some (.int (eB (decide (g.sh + 40 < v.li)))), none]) C dX1_lit_76 (Nat.le_of_ble_eq_true rfl) rfl ?_
      refine z_iload C dX1_lit_78 rfl ?_
      suffices J_ : eZ x E Q_ [eO a 1 [.ref la, .ref ca, .ref ba, .ref sa, .int u.tk, .int u.cm, .int u.dk, .int u.co, .int u.wt, .int u.lk], eIA E sa 4 st, eO b 2 [.int nu, .ref qa, .int v.li, .int v.tu, .int v.st, .int v.gd, .int v.ck], eO j 5 [.int g.w, .int g.sh, .int g.y, .int g.c, .int g.sp, .int g.t], rs] 96 [some (.ref a), some (.ref b), some (.ref j), some (.int (gSeenS st v.tu)), some (.int (eB (decide (g.sh + 40 < v.li)))), none] [.int (gSp st v g)] 0 0 by
        refine z_if_eq_B 87 C dX1_lit_80 (by decide) (fun h_ => ?_) (fun h_ => ?_)
        · refine z_iload_n C dX1_lit_87 rfl rfl ?_
          refine z_aload_n C dX1_lit_88 rfl rfl ?_
          refine z_getN eK5 3 4 C dX1_lit_89 rfl rfl q920 (eSame1 rfl) (by decide) rfl ?_
          refine z_iand (w := (gSeenS st v.tu) &&& g.sp) C dX1_lit_92 rfl ?_
          refine z_callS (As := [.int ((gSeenS st v.tu) &&& g.sp)]) (rest := []) (Δ := [eO a 1 [.ref la, .ref ca, .ref ba, .ref sa, .int u.tk, .int u.cm, .int u.dk, .int u.co, .int u.wt, .int u.lk], eIA E sa 4 st, eO b 2 [.int nu, .ref qa, .int v.li, .int v.tu, .int v.st, .int v.gd, .int v.ck], eO j 5 [.int g.w, .int g.sh, .int g.y, .int g.c, .int g.sp, .int g.t], rs]) [] [0, 1, 2, 3, 4] 1 (m_bitCount hl E (gSeenS st v.tu &&& g.sp)) C dX1_lit_93 rfl rfl rfl q1160 q1161 q88 q1162 (by decide +kernel) rfl (ePm 5 rfl (by decide +kernel)) rfl rfl ⟨Nat.le_of_ble_eq_true rfl, Nat.le_of_ble_eq_true rfl⟩ (Nat.le_trans eS0 (Nat.le_of_ble_eq_true rfl)) ⟨Nat.le_of_ble_eq_true rfl, Nat.le_of_ble_eq_true rfl⟩ (fun v_ Γ_ hp_ => ?_)
          obtain ⟨rfl, rfl⟩ := hp_
          show eZ x E _ [eO a 1 [.ref la, .ref ca, .ref ba, .ref sa, .int u.tk, .int u.cm, .int u.dk, .int u.co, .int u.wt, .int u.lk], eIA E sa 4 st, eO b 2 [.int nu, .ref qa, .int v.li, .int v.tu, .int v.st, .int v.gd, .int v.ck], eO j 5 [.int g.w, .int g.sh, .int g.y, .int g.c, .int g.sp, .int g.t], rs] 96 [some (.ref a), some (.ref b), some (.ref j), some (.int (gSeenS st v.tu)), some (.int (eB (decide (g.sh + 40 < v.li)))), none] [.int (gBits (gSeenS st v.tu &&& g.sp))] 0 0
          refine z_is (w := gSp st v g) (by rw [gSp, if_neg (of_decide_eq_false h_)]) ?_
          exact J_
        · refine z_iconst (v := 0) C dX1_lit_83 (by decide) ?_
          refine z_goto 96 C dX1_lit_84 (by decide) ?_
          refine z_is (w := gSp st v g) (by rw [gSp, if_pos (of_decide_eq_true h_)]) ?_
          exact J_
      refine z_istore (L2 := [some (.ref a), some (.ref b), some (.ref j), some (.int (gSeenS st v.tu)), some (.int (eB (decide (g.sh + 40 < v.li)))), some (.int (gSp st v g))]) C dX1_lit_96 (Nat.le_of_ble_eq_true rfl) rfl ?_
      refine z_aload_n C dX1_lit_98 rfl rfl ?_
      refine z_getN eK5 3 2 C dX1_lit_99 rfl rfl q914 (eSame1 rfl) (by decide) rfl ?_
      refine z_iconst (v := 2) C dX1_lit_102 (by decide) ?_
      refine z_icmp_ne 110 C dX1_lit_103 (by decide) (fun h2 => ?_) (fun h2 => ?_)
      · refine z_iload C dX1_lit_110 rfl ?_
        refine z_aload_n C dX1_lit_112 rfl rfl ?_
        refine z_get eK1 0 3 C dX1_lit_113 rfl rfl q313 (eSame1 rfl) (by decide) rfl ?_
        refine z_iconst (v := 3) C dX1_lit_116 (by decide) ?_
        refine z_iald (m := 3) (v := st 3) 1 C dX1_lit_117 rfl rfl (by decide) (by decide) rfl ?_
        refine z_icmp_le 125 C dX1_lit_118 (by decide) (fun h3 => ?_) (fun h3 => ?_)
        · refine z_aload_n C dX1_lit_125 rfl rfl ?_
          refine z_callV (r := (RX5, TX5, 6)) (As := []) (rest := []) (Δ := [eO a 1 [.ref la, .ref ca, .ref ba, .ref sa, .int u.tk, .int u.cm, .int u.dk, .int u.co, .int u.wt, .int u.lk], eIA E sa 4 st, eO b 2 [.int nu, .ref qa, .int v.li, .int v.tu, .int v.st, .int v.gd, .int v.ck], rs]) [3] [0, 1, 2, 4] 0 (m_byWeight hl E j g) C dX1_lit_126 rfl rfl (eIn (i := 3) rfl List.mem_cons_self) rfl rfl q1166 q1167 q1168 q80 q1169 (by decide +kernel) rfl (ePm 5 rfl (by decide +kernel)) rfl rfl ⟨Nat.le_of_ble_eq_true rfl, Nat.le_of_ble_eq_true rfl⟩ (Nat.le_trans eS0 (Nat.le_of_ble_eq_true rfl)) ⟨Nat.le_of_ble_eq_true rfl, Nat.le_of_ble_eq_true rfl⟩ (fun v_ Γ_ hp_ => ?_)
          obtain ⟨rfl, rfl⟩ := hp_
          show eZ x E _ [eO j 5 [.int g.w, .int g.sh, .int g.y, .int g.c, .int g.sp, .int g.t], eO a 1 [.ref la, .ref ca, .ref ba, .ref sa, .int u.tk, .int u.cm, .int u.dk, .int u.co, .int u.wt, .int u.lk], eIA E sa 4 st, eO b 2 [.int nu, .ref qa, .int v.li, .int v.tu, .int v.st, .int v.gd, .int v.ck], rs] 129 [some (.ref a), some (.ref b), some (.ref j), some (.int (gSeenS st v.tu)), some (.int (eB (decide (g.sh + 40 < v.li)))), some (.int (gSp st v g))] [.int (gByW g)] 0 0
          refine z_pick (Γ' := [eO a 1 [.ref la, .ref ca, .ref ba, .ref sa, .int u.tk, .int u.cm, .int u.dk, .int u.co, .int u.wt, .int u.lk], eIA E sa 4 st, eO b 2 [.int nu, .ref qa, .int v.li, .int v.tu, .int v.st, .int v.gd, .int v.ck], eO j 5 [.int g.w, .int g.sh, .int g.y, .int g.c, .int g.sp, .int g.t], rs]) [1, 2, 3, 0, 4] (ePm 5 rfl (by decide +kernel)) rfl ?_
          subst hQ_
          refine z_X ?_
          exact z_ret (Γ := [eO a 1 [.ref la, .ref ca, .ref ba, .ref sa, .int u.tk, .int u.cm, .int u.dk, .int u.co, .int u.wt, .int u.lk], eIA E sa 4 st, eO b 2 [.int nu, .ref qa, .int v.li, .int v.tu, .int v.st, .int v.gd, .int v.ck], eO j 5 [.int g.w, .int g.sh, .int g.y, .int g.c, .int g.sp, .int g.t]]) C dX1_lit_129 rfl rfl (Nat.le_of_ble_eq_true rfl) (Nat.le_of_ble_eq_true rfl) ⟨hb, by rw [gGr, if_neg h2, if_neg (Int32.not_lt.mpr h3)], rfl⟩
        · refine z_iconst (v := 4) C dX1_lit_121 (by decide) ?_
          refine z_goto 129 C dX1_lit_122 (by decide) ?_
          subst hQ_
          refine z_X ?_
          exact z_ret (Γ := [eO a 1 [.ref la, .ref ca, .ref ba, .ref sa, .int u.tk, .int u.cm, .int u.dk, .int u.co, .int u.wt, .int u.lk], eIA E sa 4 st, eO b 2 [.int nu, .ref qa, .int v.li, .int v.tu, .int v.st, .int v.gd, .int v.ck], eO j 5 [.int g.w, .int g.sh, .int g.y, .int g.c, .int g.sp, .int g.t]]) C dX1_lit_129 rfl rfl (Nat.le_of_ble_eq_true rfl) (Nat.le_of_ble_eq_true rfl) ⟨hb, by rw [gGr, if_neg h2, if_pos (Int32.not_le.mp h3)], rfl⟩
      · refine z_iconst (v := 5) C dX1_lit_106 (by decide) ?_
        refine z_goto 129 C dX1_lit_107 (by decide) ?_
        subst hQ_
        refine z_X ?_
        exact z_ret (Γ := [eO a 1 [.ref la, .ref ca, .ref ba, .ref sa, .int u.tk, .int u.cm, .int u.dk, .int u.co, .int u.wt, .int u.lk], eIA E sa 4 st, eO b 2 [.int nu, .ref qa, .int v.li, .int v.tu, .int v.st, .int v.gd, .int v.ck], eO j 5 [.int g.w, .int g.sh, .int g.y, .int g.c, .int g.sp, .int g.t]]) C dX1_lit_129 rfl rfl (Nat.le_of_ble_eq_true rfl) (Nat.le_of_ble_eq_true rfl) ⟨hb, by rw [gGr, if_pos h2], rfl⟩
    refine z_if_eq_B 57 C dX1_lit_34 (by decide) (fun h2 => ?_) (fun h2 => ?_)
    · refine z_pick (Γ' := [eO a 1 [.ref la, .ref ca, .ref ba, .ref sa, .int u.tk, .int u.cm, .int u.dk, .int u.co, .int u.wt, .int u.lk], eIA E sa 4 st, eO b 2 [.int nu, .ref qa, .int v.li, .int v.tu, .int v.st, .int v.gd, .int v.ck], eO j 5 [.int g.w, .int g.sh, .int g.y, .int g.c, .int g.sp, .int g.t], rs]) [2, 3, 1, 0, 4] (ePm 5 rfl (by decide +kernel)) rfl ?_
      exact K (by rw [gBar, if_neg hb1, if_neg (fun h => by rw [h2] at h; exact absurd h.1 (by decide))])
    · refine z_iload_n C dX1_lit_37 rfl rfl ?_
      refine z_aload_n C dX1_lit_38 rfl rfl ?_
      refine z_getN eK5 0 3 C dX1_lit_39 rfl rfl q917 (eSame1 rfl) (by decide) rfl ?_
      refine z_ishr (w := (gSeenS st v.tu) >>> (g.c &&& 31)) C dX1_lit_42 rfl ?_
      refine z_iconst (v := 1) C dX1_lit_43 (by decide) ?_
      refine z_iand (w := ((gSeenS st v.tu) >>> (g.c &&& 31)) &&& 1) C dX1_lit_44 rfl ?_
      refine z_iconst (v := 1) C dX1_lit_45 (by decide) ?_
      refine z_icmp_ne 57 C dX1_lit_46 (by decide) (fun h3 => ?_) (fun h3 => ?_)
      · refine z_pick (Γ' := [eO a 1 [.ref la, .ref ca, .ref ba, .ref sa, .int u.tk, .int u.cm, .int u.dk, .int u.co, .int u.wt, .int u.lk], eIA E sa 4 st, eO b 2 [.int nu, .ref qa, .int v.li, .int v.tu, .int v.st, .int v.gd, .int v.ck], eO j 5 [.int g.w, .int g.sh, .int g.y, .int g.c, .int g.sp, .int g.t], rs]) [2, 3, 1, 0, 4] (ePm 5 rfl (by decide +kernel)) rfl ?_
        exact K (by rw [gBar, if_neg hb1, if_neg (fun h => h3 h.2)])
      · refine z_new (fs := [.int 0, .null, .null, .null, .null, .null, .int 0]) eK9 C dX1_lit_49 rfl q1144 q1145 q86 rfl (Nat.le_of_ble_eq_true rfl) (Nat.le_of_ble_eq_true rfl) (fun o2 => ?_)
        show eZ x E _ [eO j 5 [.int g.w, .int g.sh, .int g.y, .int g.c, .int g.sp, .int g.t], eO b 2 [.int nu, .ref qa, .int v.li, .int v.tu, .int v.st, .int v.gd, .int v.ck], eO a 1 [.ref la, .ref ca, .ref ba, .ref sa, .int u.tk, .int u.cm, .int u.dk, .int u.co, .int u.wt, .int u.lk], eIA E sa 4 st, rs, eO o2 9 [.int 0, .null, .null, .null, .null, .null, .int 0]] 52 [some (.ref a), some (.ref b), some (.ref j), some (.int (gSeenS st v.tu)), none, none] [.ref o2] 1 7
        refine z_dup C dX1_lit_52 rfl ?_
        refine z_callI (As := []) (rest := [.ref o2]) (Δ := [eO j 5 [.int g.w, .int g.sh, .int g.y, .int g.c, .int g.sp, .int g.t], eO b 2 [.int nu, .ref qa, .int v.li, .int v.tu, .int v.st, .int v.gd, .int v.ck], eO a 1 [.ref la, .ref ca, .ref ba, .ref sa, .int u.tk, .int u.cm, .int u.dk, .int u.co, .int u.wt, .int u.lk], eIA E sa 4 st, rs]) [5] [0, 1, 2, 3, 4] 0 (m_Broken_init hl E o2) C dX1_lit_53 rfl rfl rfl q1153 q1154 q86 q1155 rfl (by decide +kernel) rfl (ePm 6 rfl (by decide +kernel)) rfl rfl ⟨Nat.le_of_ble_eq_true rfl, Nat.le_of_ble_eq_true rfl⟩ (Nat.le_trans (eSm rfl eS0) (Nat.le_of_ble_eq_true rfl)) ⟨Nat.le_of_ble_eq_true rfl, Nat.le_of_ble_eq_true rfl⟩ (fun v_ Γ_ hp_ => ?_)
        obtain ⟨rfl, r1, r2, rfl⟩ := hp_
        show eZ x E _ [eBk E o2 r1 r2, eO j 5 [.int g.w, .int g.sh, .int g.y, .int g.c, .int g.sp, .int g.t], eO b 2 [.int nu, .ref qa, .int v.li, .int v.tu, .int v.st, .int v.gd, .int v.ck], eO a 1 [.ref la, .ref ca, .ref ba, .ref sa, .int u.tk, .int u.cm, .int u.dk, .int u.co, .int u.wt, .int u.lk], eIA E sa 4 st, rs] 56 [some (.ref a), some (.ref b), some (.ref j), some (.int (gSeenS st v.tu)), none, none] [.ref o2] 1 7
        refine z_throw C dX1_lit_56 ?_
        show eY x E _ [eBk E o2 r1 r2, eO j 5 [.int g.w, .int g.sh, .int g.y, .int g.c, .int g.sp, .int g.t], eO b 2 [.int nu, .ref qa, .int v.li, .int v.tu, .int v.st, .int v.gd, .int v.ck], eO a 1 [.ref la, .ref ca, .ref ba, .ref sa, .int u.tk, .int u.cm, .int u.dk, .int u.co, .int u.wt, .int u.lk], eIA E sa 4 st, rs] 56 [some (.ref a), some (.ref b), some (.ref j), some (.int (gSeenS st v.tu)), none, none] [] o2 1 7
        refine y_pick (Γ' := [eBk E o2 r1 r2, eMo a la ca ba sa u, eIA E sa 4 st, eLo b qa nu v, eEg j g, rs]) [0, 3, 4, 2, 1, 5] rfl rfl ?_
        subst hQ_
        exact z_out (Γ := [eBk E o2 r1 r2, eO a 1 [.ref la, .ref ca, .ref ba, .ref sa, .int u.tk, .int u.cm, .int u.dk, .int u.co, .int u.wt, .int u.lk], eIA E sa 4 st, eO b 2 [.int nu, .ref qa, .int v.li, .int v.tu, .int v.st, .int v.gd, .int v.ck], eO j 5 [.int g.w, .int g.sh, .int g.y, .int g.c, .int g.sp, .int g.t]]) C hT (by decide) (eIn (i := 0) rfl List.mem_cons_self) (show eCl[9]? = some _ from rfl) (Nat.le_of_ble_eq_true rfl) (Nat.le_of_ble_eq_true rfl) (Or.inr ⟨by rw [gBar, if_neg hb1, if_pos ⟨h2, h3⟩], rfl, r1, r2, rfl⟩)
  · refine z_new (fs := [.int 0, .null, .null, .null, .null, .null, .int 0]) eK8 C dX1_lit_22 rfl q1117 q1118 q85 rfl (Nat.le_of_ble_eq_true rfl) (Nat.le_of_ble_eq_true rfl) (fun o1 => ?_)
    show eZ x E _ [eO b 2 [.int nu, .ref qa, .int v.li, .int v.tu, .int v.st, .int v.gd, .int v.ck], eO a 1 [.ref la, .ref ca, .ref ba, .ref sa, .int u.tk, .int u.cm, .int u.dk, .int u.co, .int u.wt, .int u.lk], eIA E sa 4 st, eO j 5 [.int g.w, .int g.sh, .int g.y, .int g.c, .int g.sp, .int g.t], rs, eO o1 8 [.int 0, .null, .null, .null, .null, .null, .int 0]] 25 [some (.ref a), some (.ref b), some (.ref j), some (.int (gSeenS st v.tu)), none, none] [.ref o1] 1 7
    refine z_dup C dX1_lit_25 rfl ?_
    refine z_callI (As := []) (rest := [.ref o1]) (Δ := [eO b 2 [.int nu, .ref qa, .int v.li, .int v.tu, .int v.st, .int v.gd, .int v.ck], eO a 1 [.ref la, .ref ca, .ref ba, .ref sa, .int u.tk, .int u.cm, .int u.dk, .int u.co, .int u.wt, .int u.lk], eIA E sa 4 st, eO j 5 [.int g.w, .int g.sh, .int g.y, .int g.c, .int g.sp, .int g.t], rs]) [5] [0, 1, 2, 3, 4] 0 (m_Dark_init hl E o1) C dX1_lit_26 rfl rfl rfl q1126 q1127 q85 q1128 rfl (by decide +kernel) rfl (ePm 6 rfl (by decide +kernel)) rfl rfl ⟨Nat.le_of_ble_eq_true rfl, Nat.le_of_ble_eq_true rfl⟩ (Nat.le_trans (eSm rfl eS0) (Nat.le_of_ble_eq_true rfl)) ⟨Nat.le_of_ble_eq_true rfl, Nat.le_of_ble_eq_true rfl⟩ (fun v_ Γ_ hp_ => ?_)
    obtain ⟨rfl, r1, r2, rfl⟩ := hp_
    show eZ x E _ [eDk E o1 r1 r2, eO b 2 [.int nu, .ref qa, .int v.li, .int v.tu, .int v.st, .int v.gd, .int v.ck], eO a 1 [.ref la, .ref ca, .ref ba, .ref sa, .int u.tk, .int u.cm, .int u.dk, .int u.co, .int u.wt, .int u.lk], eIA E sa 4 st, eO j 5 [.int g.w, .int g.sh, .int g.y, .int g.c, .int g.sp, .int g.t], rs] 29 [some (.ref a), some (.ref b), some (.ref j), some (.int (gSeenS st v.tu)), none, none] [.ref o1] 1 7
    refine z_throw C dX1_lit_29 ?_
    show eY x E _ [eDk E o1 r1 r2, eO b 2 [.int nu, .ref qa, .int v.li, .int v.tu, .int v.st, .int v.gd, .int v.ck], eO a 1 [.ref la, .ref ca, .ref ba, .ref sa, .int u.tk, .int u.cm, .int u.dk, .int u.co, .int u.wt, .int u.lk], eIA E sa 4 st, eO j 5 [.int g.w, .int g.sh, .int g.y, .int g.c, .int g.sp, .int g.t], rs] 29 [some (.ref a), some (.ref b), some (.ref j), some (.int (gSeenS st v.tu)), none, none] [] o1 1 7
    refine y_pick (Γ' := [eDk E o1 r1 r2, eMo a la ca ba sa u, eIA E sa 4 st, eLo b qa nu v, eEg j g, rs]) [0, 2, 3, 1, 4, 5] rfl rfl ?_
    subst hQ_
    exact z_out (Γ := [eDk E o1 r1 r2, eO a 1 [.ref la, .ref ca, .ref ba, .ref sa, .int u.tk, .int u.cm, .int u.dk, .int u.co, .int u.wt, .int u.lk], eIA E sa 4 st, eO b 2 [.int nu, .ref qa, .int v.li, .int v.tu, .int v.st, .int v.gd, .int v.ck], eO j 5 [.int g.w, .int g.sh, .int g.y, .int g.c, .int g.sp, .int g.t]]) C hT (by decide) (eIn (i := 0) rfl List.mem_cons_self) (show eCl[8]? = some _ from rfl) (Nat.le_of_ble_eq_true rfl) (Nat.le_of_ble_eq_true rfl) (Or.inl ⟨by rw [gBar, if_pos (Int32.not_le.mp h1)], rfl, r1, r2, rfl⟩)

set_option maxHeartbeats 4000000 in
theorem m_stained {l : Launch} (hl : l.stackTraces = false) (E : eEn) (a b qa : Nat) (nu : Int32) (v : Lv) (m : Int32) (n j : Nat) (g : Eg) (xs : List (Nat × Nat)) : eMet l E yX1_stained (ws_ yX1_stained cX1_stained 3 (some (.object "EggLights$Egg"))) ({ frames := 1, cells := 0, slots := 0, locals := 21 }) [.ref a, .ref b] [eO b 2 [.int nu, .ref qa, .int v.li, .int v.tu, .int v.st, .int v.gd, .int v.ck], eLL qa m ((n, j) :: xs), eO j 5 [.int g.w, .int g.sh, .int g.y, .int g.c, .int g.sp, .int g.t]] (fun w Γ => w = some (.ref j) ∧ Γ = [eLo b qa nu (gStL v), eLL qa m ((n, j) :: xs), eEg j (gStE v g)]) := by
  refine eStart (cc := cX1_stained) (nL := 3) (L := [some (.ref a), some (.ref b), none]) hl (by decide) rfl (List.forall_mem_cons.mpr ⟨rfl, (List.forall_mem_cons.mpr ⟨rfl, (fun _ h => absurd h List.not_mem_nil)⟩)⟩) (Nat.le_of_ble_eq_true rfl) ?_
  intro x rs C
  show eZ x E (eQ x E (fun w Γ => w = some (.ref j) ∧ Γ = [eLo b qa nu (gStL v), eLL qa m ((n, j) :: xs), eEg j (gStE v g)]) rs) [eO b 2 [.int nu, .ref qa, .int v.li, .int v.tu, .int v.st, .int v.gd, .int v.ck], eLL qa m ((n, j) :: xs), eO j 5 [.int g.w, .int g.sh, .int g.y, .int g.c, .int g.sp, .int g.t], rs] 0 [some (.ref a), some (.ref b), none] [] 0 0
  generalize hQ_ : eQ x E (fun w Γ => w = some (.ref j) ∧ Γ = [eLo b qa nu (gStL v), eLL qa m ((n, j) :: xs), eEg j (gStE v g)]) rs = Q_
  refine z_aload_n C dX1_stained_0 rfl rfl ?_
  refine z_getN eK2 0 1 C dX1_stained_1 rfl rfl q173 (eSame1 rfl) (by decide) rfl ?_
  refine z_callV (r := (RJ4, TJ4, 4)) (As := []) (rest := []) (Δ := [eO b 2 [.int nu, .ref qa, .int v.li, .int v.tu, .int v.st, .int v.gd, .int v.ck], eO j 5 [.int g.w, .int g.sh, .int g.y, .int g.c, .int g.sp, .int g.t], rs]) [1] [0, 2, 3] 0 (m_LL_getFirst hl E qa n j m xs) C dX1_stained_4 rfl rfl (eIn (i := 1) rfl eLL_mem) rfl rfl q1104 q1105 q1106 q55 q1107 (by decide +kernel) rfl (ePm 4 rfl (by decide +kernel)) rfl rfl ⟨Nat.le_of_ble_eq_true rfl, Nat.le_of_ble_eq_true rfl⟩ (Nat.le_trans eS0 (Nat.le_of_ble_eq_true rfl)) ⟨Nat.le_of_ble_eq_true rfl, Nat.le_of_ble_eq_true rfl⟩ (fun v_ Γ_ hp_ => ?_)
  obtain ⟨rfl, rfl⟩ := hp_
  show eZ x E _ [eLL qa m ((n, j) :: xs), eO b 2 [.int nu, .ref qa, .int v.li, .int v.tu, .int v.st, .int v.gd, .int v.ck], eO j 5 [.int g.w, .int g.sh, .int g.y, .int g.c, .int g.sp, .int g.t], rs] 7 [some (.ref a), some (.ref b), none] [.ref j] 0 0
  refine z_castE C dX1_stained_7 (eIn (i := 2) rfl List.mem_cons_self) (show eCl[5]? = some _ from rfl) rfl q1053 ?_
  refine z_astore_n (L2 := [some (.ref a), some (.ref b), some (.ref j)]) C dX1_stained_10 rfl (Nat.le_of_ble_eq_true rfl) rfl ?_
  refine z_aload_n C dX1_stained_11 rfl rfl ?_
  refine z_dup C dX1_stained_12 rfl ?_
  refine z_getN eK5 2 4 C dX1_stained_13 rfl rfl q920 (eSame1 rfl) (by decide) rfl ?_
  refine z_aload_n C dX1_stained_16 rfl rfl ?_
  refine z_getN eK2 1 4 C dX1_stained_17 rfl rfl q182 (eSame1 rfl) (by decide) rfl ?_
  suffices J_ : eZ x E Q_ [eLL qa m ((n, j) :: xs), eO b 2 [.int nu, .ref qa, .int v.li, .int v.tu, .int v.st, .int v.gd, .int v.ck], eO j 5 [.int g.w, .int g.sh, .int g.y, .int g.c, .int g.sp, .int g.t], rs] 28 [some (.ref a), some (.ref b), some (.ref j)] [.int (if 0 < v.st then 1 else 0), .int g.sp, .ref j] 0 0 by
    refine z_if_le 27 C dX1_stained_20 (by decide) (fun h_ => ?_) (fun h_ => ?_)
    · refine z_iconst (v := 0) C dX1_stained_27 (by decide) ?_
      refine z_is (w := if 0 < v.st then 1 else 0) (if_neg (Int32.not_lt.mpr h_)).symm ?_
      exact J_
    · refine z_iconst (v := 1) C dX1_stained_23 (by decide) ?_
      refine z_goto 28 C dX1_stained_24 (by decide) ?_
      refine z_is (w := if 0 < v.st then 1 else 0) (if_pos (Int32.not_le.mp h_)).symm ?_
      exact J_
  refine z_ior (w := g.sp ||| (if 0 < v.st then 1 else 0)) C dX1_stained_28 rfl ?_
  refine z_putN eK5 2 4 (Γ2 := [eLL qa m ((n, j) :: xs), eO b 2 [.int nu, .ref qa, .int v.li, .int v.tu, .int v.st, .int v.gd, .int v.ck], eO j 5 [.int g.w, .int g.sh, .int g.y, .int g.c, .int (g.sp ||| (if 0 < v.st then 1 else 0)), .int g.t], rs]) C dX1_stained_29 rfl rfl q920 (eSame1 rfl) (by decide) rfl rfl rfl rfl (Nat.le_of_ble_eq_true rfl) rfl ?_
  refine z_aload_n C dX1_stained_32 rfl rfl ?_
  refine z_iconst (v := 0) C dX1_stained_33 (by decide) ?_
  refine z_aload_n C dX1_stained_34 rfl rfl ?_
  refine z_getN eK2 1 4 C dX1_stained_35 rfl rfl q182 (eSame1 rfl) (by decide) rfl ?_
  refine z_iconst (v := 1) C dX1_stained_38 (by decide) ?_
  refine z_isub (w := v.st - 1) C dX1_stained_39 rfl ?_
  refine z_callS (As := [.int 0, .int (v.st - 1)]) (rest := [.ref b]) (Δ := [eLL qa m ((n, j) :: xs), eO b 2 [.int nu, .ref qa, .int v.li, .int v.tu, .int v.st, .int v.gd, .int v.ck], eO j 5 [.int g.w, .int g.sh, .int g.y, .int g.c, .int (g.sp ||| (if 0 < v.st then 1 else 0)), .int g.t], rs]) [] [0, 1, 2, 3] 2 (m_Math_max hl E 0 (v.st - 1)) C dX1_stained_40 rfl rfl rfl q1108 q225 q58 q226 (by decide +kernel) rfl (ePm 4 rfl (by decide +kernel)) rfl rfl ⟨Nat.le_of_ble_eq_true rfl, Nat.le_of_ble_eq_true rfl⟩ (Nat.le_trans (eSm rfl eS0) (Nat.le_of_ble_eq_true rfl)) ⟨Nat.le_of_ble_eq_true rfl, Nat.le_of_ble_eq_true rfl⟩ (fun v_ Γ_ hp_ => ?_)
  obtain ⟨rfl, rfl⟩ := hp_
  show eZ x E _ [eLL qa m ((n, j) :: xs), eO b 2 [.int nu, .ref qa, .int v.li, .int v.tu, .int v.st, .int v.gd, .int v.ck], eO j 5 [.int g.w, .int g.sh, .int g.y, .int g.c, .int (g.sp ||| (if 0 < v.st then 1 else 0)), .int g.t], rs] 43 [some (.ref a), some (.ref b), some (.ref j)] [.int (eMax 0 (v.st - 1)), .ref b] 0 0
  refine z_putN eK2 1 4 (Γ2 := [eLL qa m ((n, j) :: xs), eO b 2 [.int nu, .ref qa, .int v.li, .int v.tu, .int (eMax 0 (v.st - 1)), .int v.gd, .int v.ck], eO j 5 [.int g.w, .int g.sh, .int g.y, .int g.c, .int (g.sp ||| (if 0 < v.st then 1 else 0)), .int g.t], rs]) C dX1_stained_43 rfl rfl q182 (eSame1 rfl) (by decide) rfl rfl rfl rfl (Nat.le_of_ble_eq_true rfl) rfl ?_
  refine z_aload_n C dX1_stained_46 rfl rfl ?_
  refine z_pick (Γ' := [eO b 2 [.int nu, .ref qa, .int v.li, .int v.tu, .int (eMax 0 (v.st - 1)), .int v.gd, .int v.ck], eLL qa m ((n, j) :: xs), eO j 5 [.int g.w, .int g.sh, .int g.y, .int g.c, .int (g.sp ||| (if 0 < v.st then 1 else 0)), .int g.t], rs]) [1, 0, 2, 3] (ePm 4 rfl (by decide +kernel)) rfl ?_
  subst hQ_
  exact z_aret (Γ := [eO b 2 [.int nu, .ref qa, .int v.li, .int v.tu, .int (eMax 0 (v.st - 1)), .int v.gd, .int v.ck], eLL qa m ((n, j) :: xs), eO j 5 [.int g.w, .int g.sh, .int g.y, .int g.c, .int (g.sp ||| (if 0 < v.st then 1 else 0)), .int g.t]]) C dX1_stained_47 rfl (Or.inl ⟨_, rfl⟩) (Or.inr ⟨_, rfl⟩) (Nat.le_of_ble_eq_true rfl) (Nat.le_of_ble_eq_true rfl) ⟨rfl, rfl⟩

set_option maxHeartbeats 4000000 in
theorem m_gradeOf {l : Launch} (hl : l.stackTraces = false) (E : eEn) (a la ca ba sa : Nat) (u : Mv) (st : Nat → Int32) (h0 : st 0 = nI (nN (st 0))) (hN : nN (st 0) ≤ 100) (b qa : Nat) (nu : Int32) (v : Lv) (m : Int32) (zs : Qz) (hz : zs.length ≤ 8) : eMetX l E yX1_gradeOf (wsW_ yX1_gradeOf cX1_gradeOf 4 (some .int) [(24, 30, 31, 162)]) ({ frames := 8, cells := 2, slots := 13, locals := 148 }) [.ref a, .ref b] [eO a 1 [.ref la, .ref ca, .ref ba, .ref sa, .int u.tk, .int u.cm, .int u.dk, .int u.co, .int u.wt, .int u.lk], eIA E sa 4 st, eO b 2 [.int nu, .ref qa, .int v.li, .int v.tu, .int v.st, .int v.gd, .int v.ck], eLL qa m (qX zs), qE zs] (fun w Γ => ∃ z zs2, zs = z :: zs2 ∧ gBar st (gStL v) (gStE v z.2) = 0 ∧ w = some (.int (gGr st (gStL v) (gStE v z.2))) ∧ Γ = [eMo a la ca ba sa u, eIA E sa 4 st, eLo b qa nu (gStL v), eLL qa m (qX (z :: zs2)), qE ((z.1, gStE v z.2) :: zs2)]) (fun q En Γ => En = RX7 ∧ ((zs = [] ∧ ∃ r1 r2, Γ = [eUg E q q 13 r1 r2, eMo a la ca ba sa u, eIA E sa 4 st, eLo b qa nu v, eLL qa m (qX []), qE []]) ∨ ∃ z zs2, zs = z :: zs2 ∧ ((gBar st (gStL v) (gStE v z.2) = 2 ∧ ∃ q2 r1 r2 r3 r4, Γ = [eUg E q q2 14 r1 r2, eDk E q2 r3 r4, eMo a la ca ba sa u, eIA E sa 4 st, eLo b qa nu (gStL v), eLL qa m (qX (z :: zs2)), qE ((z.1, gStE v z.2) :: zs2)]) ∨ (gBar st (gStL v) (gStE v z.2) = 3 ∧ ∃ q2 r1 r2 r3 r4, Γ = [eUg E q q2 14 r1 r2, eBk E q2 r3 r4, eMo a la ca ba sa u, eIA E sa 4 st, eLo b qa nu (gStL v), eLL qa m (qX (z :: zs2)), qE ((z.1, gStE v z.2) :: zs2)])))) := by
  refine eStartW (cc := cX1_gradeOf) (nL := 4) (L := [some (.ref a), some (.ref b), none, none]) hl (by decide) rfl (List.forall_mem_cons.mpr ⟨rfl, (List.forall_mem_cons.mpr ⟨rfl, (fun _ h => absurd h List.not_mem_nil)⟩)⟩) (Nat.le_of_ble_eq_true rfl) ?_
  intro x rs C hT
  show eZ x E (eQX x E (fun w Γ => ∃ z zs2, zs = z :: zs2 ∧ gBar st (gStL v) (gStE v z.2) = 0 ∧ w = some (.int (gGr st (gStL v) (gStE v z.2))) ∧ Γ = [eMo a la ca ba sa u, eIA E sa 4 st, eLo b qa nu (gStL v), eLL qa m (qX (z :: zs2)), qE ((z.1, gStE v z.2) :: zs2)]) (fun q En Γ => En = RX7 ∧ ((zs = [] ∧ ∃ r1 r2, Γ = [eUg E q q 13 r1 r2, eMo a la ca ba sa u, eIA E sa 4 st, eLo b qa nu v, eLL qa m (qX []), qE []]) ∨ ∃ z zs2, zs = z :: zs2 ∧ ((gBar st (gStL v) (gStE v z.2) = 2 ∧ ∃ q2 r1 r2 r3 r4, Γ = [eUg E q q2 14 r1 r2, eDk E q2 r3 r4, eMo a la ca ba sa u, eIA E sa 4 st, eLo b qa nu (gStL v), eLL qa m (qX (z :: zs2)), qE ((z.1, gStE v z.2) :: zs2)]) ∨ (gBar st (gStL v) (gStE v z.2) = 3 ∧ ∃ q2 r1 r2 r3 r4, Γ = [eUg E q q2 14 r1 r2, eBk E q2 r3 r4, eMo a la ca ba sa u, eIA E sa 4 st, eLo b qa nu (gStL v), eLL qa m (qX (z :: zs2)), qE ((z.1, gStE v z.2) :: zs2)])))) rs) [eO a 1 [.ref la, .ref ca, .ref ba, .ref sa, .int u.tk, .int u.cm, .int u.dk, .int u.co, .int u.wt, .int u.lk], eIA E sa 4 st, eO b 2 [.int nu, .ref qa, .int v.li, .int v.tu, .int v.st, .int v.gd, .int v.ck], eLL qa m (qX zs), qE zs, rs] 0 [some (.ref a), some (.ref b), none, none] [] 0 0
  generalize hQ_ : eQX x E (fun w Γ => ∃ z zs2, zs = z :: zs2 ∧ gBar st (gStL v) (gStE v z.2) = 0 ∧ w = some (.int (gGr st (gStL v) (gStE v z.2))) ∧ Γ = [eMo a la ca ba sa u, eIA E sa 4 st, eLo b qa nu (gStL v), eLL qa m (qX (z :: zs2)), qE ((z.1, gStE v z.2) :: zs2)]) (fun q En Γ => En = RX7 ∧ ((zs = [] ∧ ∃ r1 r2, Γ = [eUg E q q 13 r1 r2, eMo a la ca ba sa u, eIA E sa 4 st, eLo b qa nu v, eLL qa m (qX []), qE []]) ∨ ∃ z zs2, zs = z :: zs2 ∧ ((gBar st (gStL v) (gStE v z.2) = 2 ∧ ∃ q2 r1 r2 r3 r4, Γ = [eUg E q q2 14 r1 r2, eDk E q2 r3 r4, eMo a la ca ba sa u, eIA E sa 4 st, eLo b qa nu (gStL v), eLL qa m (qX (z :: zs2)), qE ((z.1, gStE v z.2) :: zs2)]) ∨ (gBar st (gStL v) (gStE v z.2) = 3 ∧ ∃ q2 r1 r2 r3 r4, Γ = [eUg E q q2 14 r1 r2, eBk E q2 r3 r4, eMo a la ca ba sa u, eIA E sa 4 st, eLo b qa nu (gStL v), eLL qa m (qX (z :: zs2)), qE ((z.1, gStE v z.2) :: zs2)])))) rs = Q_
  have hz2 : (qX zs).length < 1000000 := by rw [List.length_map]; omega
  refine z_aload_n C dX1_gradeOf_0 rfl rfl ?_
  refine z_getN eK2 2 1 C dX1_gradeOf_1 rfl rfl q173 (eSame1 rfl) (by decide) rfl ?_
  refine z_callU (r := (RJ4, TJ4, 4)) (As := []) (rest := []) (Δ := [eO a 1 [.ref la, .ref ca, .ref ba, .ref sa, .int u.tk, .int u.cm, .int u.dk, .int u.co, .int u.wt, .int u.lk], eIA E sa 4 st, eO b 2 [.int nu, .ref qa, .int v.li, .int v.tu, .int v.st, .int v.gd, .int v.ck], qE zs, rs]) [3] [0, 1, 2, 4, 5] 0 (m_LL_isEmpty hl E qa m (qX zs) hz2) C dX1_gradeOf_4 rfl rfl (eIn (i := 3) rfl eLL_mem) rfl rfl (eCU (owner := "java/util/AbstractCollection") q1036 q1037 q1039 q1040 q51 q1041 rfl (by decide +kernel)) rfl (ePm 6 rfl (by decide +kernel)) rfl rfl ⟨Nat.le_of_ble_eq_true rfl, Nat.le_of_ble_eq_true rfl⟩ (Nat.le_trans eS0 (Nat.le_of_ble_eq_true rfl)) ⟨Nat.le_of_ble_eq_true rfl, Nat.le_of_ble_eq_true rfl⟩ (fun v_ Γ_ hp_ => ?_)
  obtain ⟨rfl, rfl⟩ := hp_
  show eZ x E _ [eLL qa m (qX zs), eO a 1 [.ref la, .ref ca, .ref ba, .ref sa, .int u.tk, .int u.cm, .int u.dk, .int u.co, .int u.wt, .int u.lk], eIA E sa 4 st, eO b 2 [.int nu, .ref qa, .int v.li, .int v.tu, .int v.st, .int v.gd, .int v.ck], qE zs, rs] 7 [some (.ref a), some (.ref b), none, none] [.int (eB (qX zs).isEmpty)] 0 0
  refine z_if_eq_B 18 C dX1_gradeOf_7 (by decide) (fun h1 => ?_) (fun h1 => ?_)
  · rcases zs with _ | ⟨⟨⟨n0, j0⟩, g⟩, zs⟩
    case nil => cases h1
    refine z_cut 4 (bs := [eO j0 5 [.int g.w, .int g.sh, .int g.y, .int g.c, .int g.sp, .int g.t], qE zs]) rfl (by simp [qE_cons]) rfl ?_
    show eZ x E _ [eLL qa m ((n0, j0) :: qX zs), eO a 1 [.ref la, .ref ca, .ref ba, .ref sa, .int u.tk, .int u.cm, .int u.dk, .int u.co, .int u.wt, .int u.lk], eIA E sa 4 st, eO b 2 [.int nu, .ref qa, .int v.li, .int v.tu, .int v.st, .int v.gd, .int v.ck], eO j0 5 [.int g.w, .int g.sh, .int g.y, .int g.c, .int g.sp, .int g.t], qE zs, rs] 18 [some (.ref a), some (.ref b), none, none] [] 0 0
    refine z_aload_n C dX1_gradeOf_18 rfl rfl ?_
    refine z_aload_n C dX1_gradeOf_19 rfl rfl ?_
    refine z_callV (r := (RX1, TX1, 10)) (As := [.ref b]) (rest := []) (Δ := [eO a 1 [.ref la, .ref ca, .ref ba, .ref sa, .int u.tk, .int u.cm, .int u.dk, .int u.co, .int u.wt, .int u.lk], eIA E sa 4 st, qE zs, rs]) [3, 0, 4] [1, 2, 5, 6] 1 (m_stained hl E a b qa nu v m n0 j0 g (qX zs)) C dX1_gradeOf_20 rfl rfl (eIn (i := 1) rfl List.mem_cons_self) rfl rfl q1100 q1101 q1102 q50 q1103 (by decide +kernel) rfl (ePm 7 rfl (by decide +kernel)) rfl rfl ⟨Nat.le_of_ble_eq_true rfl, Nat.le_of_ble_eq_true rfl⟩ (Nat.le_trans eS0 (Nat.le_of_ble_eq_true rfl)) ⟨Nat.le_of_ble_eq_true rfl, Nat.le_of_ble_eq_true rfl⟩ (fun v_ Γ_ hp_ => ?_)
    obtain ⟨rfl, rfl⟩ := hp_
    show eZ x E _ [eO b 2 [.int nu, .ref qa, .int ((gStL v).li), .int ((gStL v).tu), .int ((gStL v).st), .int ((gStL v).gd), .int ((gStL v).ck)], eLL qa m ((n0, j0) :: qX zs), eO j0 5 [.int ((gStE v g).w), .int ((gStE v g).sh), .int ((gStE v g).y), .int ((gStE v g).c), .int ((gStE v g).sp), .int ((gStE v g).t)], eO a 1 [.ref la, .ref ca, .ref ba, .ref sa, .int u.tk, .int u.cm, .int u.dk, .int u.co, .int u.wt, .int u.lk], eIA E sa 4 st, qE zs, rs] 23 [some (.ref a), some (.ref b), none, none] [.ref j0] 0 0
    refine z_astore_n (L2 := [some (.ref a), some (.ref b), some (.ref j0), none]) C dX1_gradeOf_23 rfl (Nat.le_of_ble_eq_true rfl) rfl ?_
    refine z_aload_n C dX1_gradeOf_24 rfl rfl ?_
    refine z_aload_n C dX1_gradeOf_25 rfl rfl ?_
    refine z_aload_n C dX1_gradeOf_26 rfl rfl ?_
    refine z_callVX (r := (RX1, TX1, 10)) (As := [.ref b, .ref j0]) (rest := []) (Δ := [eLL qa m ((n0, j0) :: qX zs), qE zs, rs]) [3, 4, 0, 2] [1, 5, 6] 2 (m_lit hl E a la ca ba sa u st h0 hN b qa nu (gStL v) j0 (gStE v g)) C dX1_gradeOf_27 rfl rfl (eIn (i := 3) rfl List.mem_cons_self) rfl rfl q1109 q1110 q1111 q50 q1112 (by decide +kernel) rfl (ePm 7 rfl (by decide +kernel)) rfl rfl ⟨Nat.le_of_ble_eq_true rfl, Nat.le_of_ble_eq_true rfl⟩ (Nat.le_trans eS0 (Nat.le_of_ble_eq_true rfl)) ⟨Nat.le_of_ble_eq_true rfl, Nat.le_of_ble_eq_true rfl⟩ (fun q_ En_ Γ_ hx_ => ?_) (fun v_ Γ_ hp_ => ?_)
    · rcases hx_ with ⟨hb, rfl, r1, r2, rfl⟩ | ⟨hb, rfl, r1, r2, rfl⟩
      · show eY x E _ [eO q_ 8 [.int 2, .ref q_, va_rf r1, va_rf r2, .ref (E.2.2.2 15), .null, .int 0], eO a 1 [.ref la, .ref ca, .ref ba, .ref sa, .int u.tk, .int u.cm, .int u.dk, .int u.co, .int u.wt, .int u.lk], eIA E sa 4 st, eO b 2 [.int nu, .ref qa, .int ((gStL v).li), .int ((gStL v).tu), .int ((gStL v).st), .int ((gStL v).gd), .int ((gStL v).ck)], eO j0 5 [.int ((gStE v g).w), .int ((gStE v g).sh), .int ((gStE v g).y), .int ((gStE v g).c), .int ((gStE v g).sp), .int ((gStE v g).t)], eLL qa m ((n0, j0) :: qX zs), qE zs, rs] 27 [some (.ref a), some (.ref b), some (.ref j0), none] [] q_ 1 7
        refine z_catch C hT (by decide) (by decide) rfl q1084 q1958 (eIn (i := 0) rfl List.mem_cons_self) (show eCl[8]? = some _ from rfl) ?_
        show eZ x E _ [eO q_ 8 [.int 2, .ref q_, va_rf r1, va_rf r2, .ref (E.2.2.2 15), .null, .int 0], eO a 1 [.ref la, .ref ca, .ref ba, .ref sa, .int u.tk, .int u.cm, .int u.dk, .int u.co, .int u.wt, .int u.lk], eIA E sa 4 st, eO b 2 [.int nu, .ref qa, .int ((gStL v).li), .int ((gStL v).tu), .int ((gStL v).st), .int ((gStL v).gd), .int ((gStL v).ck)], eO j0 5 [.int ((gStE v g).w), .int ((gStE v g).sh), .int ((gStE v g).y), .int ((gStE v g).c), .int ((gStE v g).sp), .int ((gStE v g).t)], eLL qa m ((n0, j0) :: qX zs), qE zs, rs] 31 [some (.ref a), some (.ref b), some (.ref j0), none] [.ref q_] 1 7
        refine z_astore_n (L2 := [some (.ref a), some (.ref b), some (.ref j0), some (.ref q_)]) C dX1_gradeOf_31 rfl (Nat.le_of_ble_eq_true rfl) rfl ?_
        refine z_new (fs := [.null, .null, .null, .null, .null, .int 0]) eK7 C dX1_gradeOf_32 rfl q1079 q1085 q83 rfl (Nat.le_of_ble_eq_true rfl) (Nat.le_of_ble_eq_true rfl) (fun o2 => ?_)
        show eZ x E _ [eO q_ 8 [.int 2, .ref q_, va_rf r1, va_rf r2, .ref (E.2.2.2 15), .null, .int 0], eO a 1 [.ref la, .ref ca, .ref ba, .ref sa, .int u.tk, .int u.cm, .int u.dk, .int u.co, .int u.wt, .int u.lk], eIA E sa 4 st, eO b 2 [.int nu, .ref qa, .int ((gStL v).li), .int ((gStL v).tu), .int ((gStL v).st), .int ((gStL v).gd), .int ((gStL v).ck)], eO j0 5 [.int ((gStE v g).w), .int ((gStE v g).sh), .int ((gStE v g).y), .int ((gStE v g).c), .int ((gStE v g).sp), .int ((gStE v g).t)], eLL qa m ((n0, j0) :: qX zs), qE zs, rs, eO o2 7 [.null, .null, .null, .null, .null, .int 0]] 35 [some (.ref a), some (.ref b), some (.ref j0), some (.ref q_)] [.ref o2] 2 13
        refine z_dup C dX1_gradeOf_35 rfl ?_
        refine z_aload_n C dX1_gradeOf_36 rfl rfl ?_
        refine z_callI (As := [.ref q_]) (rest := [.ref o2]) (Δ := [eO q_ 8 [.int 2, .ref q_, va_rf r1, va_rf r2, .ref (E.2.2.2 15), .null, .int 0], eO a 1 [.ref la, .ref ca, .ref ba, .ref sa, .int u.tk, .int u.cm, .int u.dk, .int u.co, .int u.wt, .int u.lk], eIA E sa 4 st, eO b 2 [.int nu, .ref qa, .int ((gStL v).li), .int ((gStL v).tu), .int ((gStL v).st), .int ((gStL v).gd), .int ((gStL v).ck)], eO j0 5 [.int ((gStE v g).w), .int ((gStE v g).sh), .int ((gStE v g).y), .int ((gStE v g).c), .int ((gStE v g).sp), .int ((gStE v g).t)], eLL qa m ((n0, j0) :: qX zs), qE zs, rs]) [8] [0, 1, 2, 3, 4, 5, 6, 7] 1 (m_Ungraded_init2 hl E o2 q_) C dX1_gradeOf_37 rfl rfl rfl q1172 q1173 q83 q1174 rfl (by decide +kernel) rfl (ePm 9 rfl (by decide +kernel)) rfl rfl ⟨Nat.le_of_ble_eq_true rfl, Nat.le_of_ble_eq_true rfl⟩ (Nat.le_trans (eSm rfl eS0) (Nat.le_of_ble_eq_true rfl)) ⟨Nat.le_of_ble_eq_true rfl, Nat.le_of_ble_eq_true rfl⟩ (fun v_ Γ_ hp_ => ?_)
        obtain ⟨rfl, r3, r4, rfl⟩ := hp_
        show eZ x E _ [eUg E o2 q_ 14 r3 r4, eO q_ 8 [.int 2, .ref q_, va_rf r1, va_rf r2, .ref (E.2.2.2 15), .null, .int 0], eO a 1 [.ref la, .ref ca, .ref ba, .ref sa, .int u.tk, .int u.cm, .int u.dk, .int u.co, .int u.wt, .int u.lk], eIA E sa 4 st, eO b 2 [.int nu, .ref qa, .int ((gStL v).li), .int ((gStL v).tu), .int ((gStL v).st), .int ((gStL v).gd), .int ((gStL v).ck)], eO j0 5 [.int ((gStE v g).w), .int ((gStE v g).sh), .int ((gStE v g).y), .int ((gStE v g).c), .int ((gStE v g).sp), .int ((gStE v g).t)], eLL qa m ((n0, j0) :: qX zs), qE zs, rs] 40 [some (.ref a), some (.ref b), some (.ref j0), some (.ref q_)] [.ref o2] 2 13
        refine z_throw C dX1_gradeOf_40 ?_
        show eY x E _ [eUg E o2 q_ 14 r3 r4, eO q_ 8 [.int 2, .ref q_, va_rf r1, va_rf r2, .ref (E.2.2.2 15), .null, .int 0], eO a 1 [.ref la, .ref ca, .ref ba, .ref sa, .int u.tk, .int u.cm, .int u.dk, .int u.co, .int u.wt, .int u.lk], eIA E sa 4 st, eO b 2 [.int nu, .ref qa, .int ((gStL v).li), .int ((gStL v).tu), .int ((gStL v).st), .int ((gStL v).gd), .int ((gStL v).ck)], eO j0 5 [.int ((gStE v g).w), .int ((gStE v g).sh), .int ((gStE v g).y), .int ((gStE v g).c), .int ((gStE v g).sp), .int ((gStE v g).t)], eLL qa m ((n0, j0) :: qX zs), qE zs, rs] 40 [some (.ref a), some (.ref b), some (.ref j0), some (.ref q_)] [] o2 2 13
        refine y_perm (Γ' := [eUg E o2 q_ 14 r3 r4, eDk E q_ r1 r2, eO a 1 [.ref la, .ref ca, .ref ba, .ref sa, .int u.tk, .int u.cm, .int u.dk, .int u.co, .int u.wt, .int u.lk], eIA E sa 4 st, eO b 2 [.int nu, .ref qa, .int ((gStL v).li), .int ((gStL v).tu), .int ((gStL v).st), .int ((gStL v).gd), .int ((gStL v).ck)], eLL qa m ((n0, j0) :: qX zs), qE (((n0, j0), gStE v g) :: zs), rs]) ?_ ?_
        · exact (ePick_perm (ks := [0, 1, 2, 3, 4, 6, 5, 7, 8]) rfl).trans (List.Perm.of_eq (by simp [ePick, qE_cons]))
        subst hQ_
        exact z_out (Γ := [eUg E o2 q_ 14 r3 r4, eDk E q_ r1 r2, eO a 1 [.ref la, .ref ca, .ref ba, .ref sa, .int u.tk, .int u.cm, .int u.dk, .int u.co, .int u.wt, .int u.lk], eIA E sa 4 st, eO b 2 [.int nu, .ref qa, .int ((gStL v).li), .int ((gStL v).tu), .int ((gStL v).st), .int ((gStL v).gd), .int ((gStL v).ck)], eLL qa m ((n0, j0) :: qX zs), qE (((n0, j0), gStE v g) :: zs)]) C hT (by decide) (eIn (i := 0) rfl List.mem_cons_self) (show eCl[7]? = some _ from rfl) (Nat.le_of_ble_eq_true rfl) (Nat.le_of_ble_eq_true rfl) ⟨rfl, Or.inr ⟨((n0, j0), g), zs, rfl, Or.inl ⟨hb, q_, r3, r4, r1, r2, rfl⟩⟩⟩
      · show eY x E _ [eO q_ 9 [.int 3, .ref q_, va_rf r1, va_rf r2, .ref (E.2.2.2 15), .null, .int 0], eO a 1 [.ref la, .ref ca, .ref ba, .ref sa, .int u.tk, .int u.cm, .int u.dk, .int u.co, .int u.wt, .int u.lk], eIA E sa 4 st, eO b 2 [.int nu, .ref qa, .int ((gStL v).li), .int ((gStL v).tu), .int ((gStL v).st), .int ((gStL v).gd), .int ((gStL v).ck)], eO j0 5 [.int ((gStE v g).w), .int ((gStE v g).sh), .int ((gStE v g).y), .int ((gStE v g).c), .int ((gStE v g).sp), .int ((gStE v g).t)], eLL qa m ((n0, j0) :: qX zs), qE zs, rs] 27 [some (.ref a), some (.ref b), some (.ref j0), none] [] q_ 1 7
        refine z_catch C hT (by decide) (by decide) rfl q1084 q1957 (eIn (i := 0) rfl List.mem_cons_self) (show eCl[9]? = some _ from rfl) ?_
        show eZ x E _ [eO q_ 9 [.int 3, .ref q_, va_rf r1, va_rf r2, .ref (E.2.2.2 15), .null, .int 0], eO a 1 [.ref la, .ref ca, .ref ba, .ref sa, .int u.tk, .int u.cm, .int u.dk, .int u.co, .int u.wt, .int u.lk], eIA E sa 4 st, eO b 2 [.int nu, .ref qa, .int ((gStL v).li), .int ((gStL v).tu), .int ((gStL v).st), .int ((gStL v).gd), .int ((gStL v).ck)], eO j0 5 [.int ((gStE v g).w), .int ((gStE v g).sh), .int ((gStE v g).y), .int ((gStE v g).c), .int ((gStE v g).sp), .int ((gStE v g).t)], eLL qa m ((n0, j0) :: qX zs), qE zs, rs] 31 [some (.ref a), some (.ref b), some (.ref j0), none] [.ref q_] 1 7
        refine z_astore_n (L2 := [some (.ref a), some (.ref b), some (.ref j0), some (.ref q_)]) C dX1_gradeOf_31 rfl (Nat.le_of_ble_eq_true rfl) rfl ?_
        refine z_new (fs := [.null, .null, .null, .null, .null, .int 0]) eK7 C dX1_gradeOf_32 rfl q1079 q1085 q83 rfl (Nat.le_of_ble_eq_true rfl) (Nat.le_of_ble_eq_true rfl) (fun o3 => ?_)
        show eZ x E _ [eO q_ 9 [.int 3, .ref q_, va_rf r1, va_rf r2, .ref (E.2.2.2 15), .null, .int 0], eO a 1 [.ref la, .ref ca, .ref ba, .ref sa, .int u.tk, .int u.cm, .int u.dk, .int u.co, .int u.wt, .int u.lk], eIA E sa 4 st, eO b 2 [.int nu, .ref qa, .int ((gStL v).li), .int ((gStL v).tu), .int ((gStL v).st), .int ((gStL v).gd), .int ((gStL v).ck)], eO j0 5 [.int ((gStE v g).w), .int ((gStE v g).sh), .int ((gStE v g).y), .int ((gStE v g).c), .int ((gStE v g).sp), .int ((gStE v g).t)], eLL qa m ((n0, j0) :: qX zs), qE zs, rs, eO o3 7 [.null, .null, .null, .null, .null, .int 0]] 35 [some (.ref a), some (.ref b), some (.ref j0), some (.ref q_)] [.ref o3] 2 13
        refine z_dup C dX1_gradeOf_35 rfl ?_
        refine z_aload_n C dX1_gradeOf_36 rfl rfl ?_
        refine z_callI (As := [.ref q_]) (rest := [.ref o3]) (Δ := [eO q_ 9 [.int 3, .ref q_, va_rf r1, va_rf r2, .ref (E.2.2.2 15), .null, .int 0], eO a 1 [.ref la, .ref ca, .ref ba, .ref sa, .int u.tk, .int u.cm, .int u.dk, .int u.co, .int u.wt, .int u.lk], eIA E sa 4 st, eO b 2 [.int nu, .ref qa, .int ((gStL v).li), .int ((gStL v).tu), .int ((gStL v).st), .int ((gStL v).gd), .int ((gStL v).ck)], eO j0 5 [.int ((gStE v g).w), .int ((gStE v g).sh), .int ((gStE v g).y), .int ((gStE v g).c), .int ((gStE v g).sp), .int ((gStE v g).t)], eLL qa m ((n0, j0) :: qX zs), qE zs, rs]) [8] [0, 1, 2, 3, 4, 5, 6, 7] 1 (m_Ungraded_init2 hl E o3 q_) C dX1_gradeOf_37 rfl rfl rfl q1172 q1173 q83 q1174 rfl (by decide +kernel) rfl (ePm 9 rfl (by decide +kernel)) rfl rfl ⟨Nat.le_of_ble_eq_true rfl, Nat.le_of_ble_eq_true rfl⟩ (Nat.le_trans (eSm rfl eS0) (Nat.le_of_ble_eq_true rfl)) ⟨Nat.le_of_ble_eq_true rfl, Nat.le_of_ble_eq_true rfl⟩ (fun v_ Γ_ hp_ => ?_)
        obtain ⟨rfl, r3, r4, rfl⟩ := hp_
        show eZ x E _ [eUg E o3 q_ 14 r3 r4, eO q_ 9 [.int 3, .ref q_, va_rf r1, va_rf r2, .ref (E.2.2.2 15), .null, .int 0], eO a 1 [.ref la, .ref ca, .ref ba, .ref sa, .int u.tk, .int u.cm, .int u.dk, .int u.co, .int u.wt, .int u.lk], eIA E sa 4 st, eO b 2 [.int nu, .ref qa, .int ((gStL v).li), .int ((gStL v).tu), .int ((gStL v).st), .int ((gStL v).gd), .int ((gStL v).ck)], eO j0 5 [.int ((gStE v g).w), .int ((gStE v g).sh), .int ((gStE v g).y), .int ((gStE v g).c), .int ((gStE v g).sp), .int ((gStE v g).t)], eLL qa m ((n0, j0) :: qX zs), qE zs, rs] 40 [some (.ref a), some (.ref b), some (.ref j0), some (.ref q_)] [.ref o3] 2 13
        refine z_throw C dX1_gradeOf_40 ?_
        show eY x E _ [eUg E o3 q_ 14 r3 r4, eO q_ 9 [.int 3, .ref q_, va_rf r1, va_rf r2, .ref (E.2.2.2 15), .null, .int 0], eO a 1 [.ref la, .ref ca, .ref ba, .ref sa, .int u.tk, .int u.cm, .int u.dk, .int u.co, .int u.wt, .int u.lk], eIA E sa 4 st, eO b 2 [.int nu, .ref qa, .int ((gStL v).li), .int ((gStL v).tu), .int ((gStL v).st), .int ((gStL v).gd), .int ((gStL v).ck)], eO j0 5 [.int ((gStE v g).w), .int ((gStE v g).sh), .int ((gStE v g).y), .int ((gStE v g).c), .int ((gStE v g).sp), .int ((gStE v g).t)], eLL qa m ((n0, j0) :: qX zs), qE zs, rs] 40 [some (.ref a), some (.ref b), some (.ref j0), some (.ref q_)] [] o3 2 13
        refine y_perm (Γ' := [eUg E o3 q_ 14 r3 r4, eBk E q_ r1 r2, eO a 1 [.ref la, .ref ca, .ref ba, .ref sa, .int u.tk, .int u.cm, .int u.dk, .int u.co, .int u.wt, .int u.lk], eIA E sa 4 st, eO b 2 [.int nu, .ref qa, .int ((gStL v).li), .int ((gStL v).tu), .int ((gStL v).st), .int ((gStL v).gd), .int ((gStL v).ck)], eLL qa m ((n0, j0) :: qX zs), qE (((n0, j0), gStE v g) :: zs), rs]) ?_ ?_
        · exact (ePick_perm (ks := [0, 1, 2, 3, 4, 6, 5, 7, 8]) rfl).trans (List.Perm.of_eq (by simp [ePick, qE_cons]))
        subst hQ_
        exact z_out (Γ := [eUg E o3 q_ 14 r3 r4, eBk E q_ r1 r2, eO a 1 [.ref la, .ref ca, .ref ba, .ref sa, .int u.tk, .int u.cm, .int u.dk, .int u.co, .int u.wt, .int u.lk], eIA E sa 4 st, eO b 2 [.int nu, .ref qa, .int ((gStL v).li), .int ((gStL v).tu), .int ((gStL v).st), .int ((gStL v).gd), .int ((gStL v).ck)], eLL qa m ((n0, j0) :: qX zs), qE (((n0, j0), gStE v g) :: zs)]) C hT (by decide) (eIn (i := 0) rfl List.mem_cons_self) (show eCl[7]? = some _ from rfl) (Nat.le_of_ble_eq_true rfl) (Nat.le_of_ble_eq_true rfl) ⟨rfl, Or.inr ⟨((n0, j0), g), zs, rfl, Or.inr ⟨hb, q_, r3, r4, r1, r2, rfl⟩⟩⟩
    obtain ⟨hb, rfl, rfl⟩ := hp_
    show eZ x E _ [eO a 1 [.ref la, .ref ca, .ref ba, .ref sa, .int u.tk, .int u.cm, .int u.dk, .int u.co, .int u.wt, .int u.lk], eIA E sa 4 st, eO b 2 [.int nu, .ref qa, .int ((gStL v).li), .int ((gStL v).tu), .int ((gStL v).st), .int ((gStL v).gd), .int ((gStL v).ck)], eO j0 5 [.int ((gStE v g).w), .int ((gStE v g).sh), .int ((gStE v g).y), .int ((gStE v g).c), .int ((gStE v g).sp), .int ((gStE v g).t)], eLL qa m ((n0, j0) :: qX zs), qE zs, rs] 30 [some (.ref a), some (.ref b), some (.ref j0), none] [.int (gGr st (gStL v) (gStE v g))] 1 7
    refine z_pick (Γ' := [eO j0 5 [.int ((gStE v g).w), .int ((gStE v g).sh), .int ((gStE v g).y), .int ((gStE v g).c), .int ((gStE v g).sp), .int ((gStE v g).t)], qE zs, eO a 1 [.ref la, .ref ca, .ref ba, .ref sa, .int u.tk, .int u.cm, .int u.dk, .int u.co, .int u.wt, .int u.lk], eIA E sa 4 st, eO b 2 [.int nu, .ref qa, .int ((gStL v).li), .int ((gStL v).tu), .int ((gStL v).st), .int ((gStL v).gd), .int ((gStL v).ck)], eLL qa m ((n0, j0) :: qX zs), rs]) [3, 5, 0, 1, 2, 4, 6] (ePm 7 rfl (by decide +kernel)) rfl ?_
    refine z_join 2 (b := qE (((n0, j0), gStE v g) :: zs)) (by simp [qE_cons]) rfl ?_
    show eZ x E _ [qE (((n0, j0), gStE v g) :: zs), eO a 1 [.ref la, .ref ca, .ref ba, .ref sa, .int u.tk, .int u.cm, .int u.dk, .int u.co, .int u.wt, .int u.lk], eIA E sa 4 st, eO b 2 [.int nu, .ref qa, .int ((gStL v).li), .int ((gStL v).tu), .int ((gStL v).st), .int ((gStL v).gd), .int ((gStL v).ck)], eLL qa m ((n0, j0) :: qX zs), rs] 30 [some (.ref a), some (.ref b), some (.ref j0), none] [.int (gGr st (gStL v) (gStE v g))] 1 7
    refine z_pick (Γ' := [eO a 1 [.ref la, .ref ca, .ref ba, .ref sa, .int u.tk, .int u.cm, .int u.dk, .int u.co, .int u.wt, .int u.lk], eIA E sa 4 st, eO b 2 [.int nu, .ref qa, .int ((gStL v).li), .int ((gStL v).tu), .int ((gStL v).st), .int ((gStL v).gd), .int ((gStL v).ck)], eLL qa m ((n0, j0) :: qX zs), qE (((n0, j0), gStE v g) :: zs), rs]) [1, 2, 3, 4, 0, 5] (ePm 6 rfl (by decide +kernel)) rfl ?_
    subst hQ_
    refine z_X ?_
    exact z_ret (Γ := [eO a 1 [.ref la, .ref ca, .ref ba, .ref sa, .int u.tk, .int u.cm, .int u.dk, .int u.co, .int u.wt, .int u.lk], eIA E sa 4 st, eO b 2 [.int nu, .ref qa, .int ((gStL v).li), .int ((gStL v).tu), .int ((gStL v).st), .int ((gStL v).gd), .int ((gStL v).ck)], eLL qa m ((n0, j0) :: qX zs), qE (((n0, j0), gStE v g) :: zs)]) C dX1_gradeOf_30 rfl rfl (Nat.le_of_ble_eq_true rfl) (Nat.le_of_ble_eq_true rfl) ⟨((n0, j0), g), zs, rfl, hb, rfl, rfl⟩
  · rcases zs with _ | ⟨z0, zs⟩
    case cons => cases h1
    show eZ x E _ [eLL qa m (qX []), eO a 1 [.ref la, .ref ca, .ref ba, .ref sa, .int u.tk, .int u.cm, .int u.dk, .int u.co, .int u.wt, .int u.lk], eIA E sa 4 st, eO b 2 [.int nu, .ref qa, .int v.li, .int v.tu, .int v.st, .int v.gd, .int v.ck], qE [], rs] 10 [some (.ref a), some (.ref b), none, none] [] 0 0
    refine z_new (fs := [.null, .null, .null, .null, .null, .int 0]) eK7 C dX1_gradeOf_10 rfl q1079 q1085 q83 rfl (Nat.le_of_ble_eq_true rfl) (Nat.le_of_ble_eq_true rfl) (fun o1 => ?_)
    show eZ x E _ [eLL qa m (qX []), eO a 1 [.ref la, .ref ca, .ref ba, .ref sa, .int u.tk, .int u.cm, .int u.dk, .int u.co, .int u.wt, .int u.lk], eIA E sa 4 st, eO b 2 [.int nu, .ref qa, .int v.li, .int v.tu, .int v.st, .int v.gd, .int v.ck], qE [], rs, eO o1 7 [.null, .null, .null, .null, .null, .int 0]] 13 [some (.ref a), some (.ref b), none, none] [.ref o1] 1 6
    refine z_dup C dX1_gradeOf_13 rfl ?_
    refine z_callI (As := []) (rest := [.ref o1]) (Δ := [eLL qa m (qX []), eO a 1 [.ref la, .ref ca, .ref ba, .ref sa, .int u.tk, .int u.cm, .int u.dk, .int u.co, .int u.wt, .int u.lk], eIA E sa 4 st, eO b 2 [.int nu, .ref qa, .int v.li, .int v.tu, .int v.st, .int v.gd, .int v.ck], qE [], rs]) [6] [0, 1, 2, 3, 4, 5] 0 (m_Ungraded_init hl E o1) C dX1_gradeOf_14 rfl rfl rfl q1093 q1094 q83 q1095 rfl (by decide +kernel) rfl (ePm 7 rfl (by decide +kernel)) rfl rfl ⟨Nat.le_of_ble_eq_true rfl, Nat.le_of_ble_eq_true rfl⟩ (Nat.le_trans (eSm rfl eS0) (Nat.le_of_ble_eq_true rfl)) ⟨Nat.le_of_ble_eq_true rfl, Nat.le_of_ble_eq_true rfl⟩ (fun v_ Γ_ hp_ => ?_)
    obtain ⟨rfl, r1, r2, rfl⟩ := hp_
    show eZ x E _ [eUg E o1 o1 13 r1 r2, eLL qa m (qX []), eO a 1 [.ref la, .ref ca, .ref ba, .ref sa, .int u.tk, .int u.cm, .int u.dk, .int u.co, .int u.wt, .int u.lk], eIA E sa 4 st, eO b 2 [.int nu, .ref qa, .int v.li, .int v.tu, .int v.st, .int v.gd, .int v.ck], qE [], rs] 17 [some (.ref a), some (.ref b), none, none] [.ref o1] 1 6
    refine z_throw C dX1_gradeOf_17 ?_
    show eY x E _ [eUg E o1 o1 13 r1 r2, eLL qa m (qX []), eO a 1 [.ref la, .ref ca, .ref ba, .ref sa, .int u.tk, .int u.cm, .int u.dk, .int u.co, .int u.wt, .int u.lk], eIA E sa 4 st, eO b 2 [.int nu, .ref qa, .int v.li, .int v.tu, .int v.st, .int v.gd, .int v.ck], qE [], rs] 17 [some (.ref a), some (.ref b), none, none] [] o1 1 6
    refine y_pick (Γ' := [eUg E o1 o1 13 r1 r2, eO a 1 [.ref la, .ref ca, .ref ba, .ref sa, .int u.tk, .int u.cm, .int u.dk, .int u.co, .int u.wt, .int u.lk], eIA E sa 4 st, eO b 2 [.int nu, .ref qa, .int v.li, .int v.tu, .int v.st, .int v.gd, .int v.ck], eLL qa m (qX []), qE [], rs]) [0, 2, 3, 4, 1, 5, 6] rfl rfl ?_
    subst hQ_
    exact z_out (Γ := [eUg E o1 o1 13 r1 r2, eO a 1 [.ref la, .ref ca, .ref ba, .ref sa, .int u.tk, .int u.cm, .int u.dk, .int u.co, .int u.wt, .int u.lk], eIA E sa 4 st, eO b 2 [.int nu, .ref qa, .int v.li, .int v.tu, .int v.st, .int v.gd, .int v.ck], eLL qa m (qX []), qE []]) C hT (by decide) (eIn (i := 0) rfl List.mem_cons_self) (show eCl[7]? = some _ from rfl) (Nat.le_of_ble_eq_true rfl) (Nat.le_of_ble_eq_true rfl) ⟨rfl, Or.inl ⟨rfl, r1, r2, rfl⟩⟩

set_option maxHeartbeats 4000000 in
theorem m_reason_0 {l : Launch} (hl : l.stackTraces = false) (E : eEn) (a : Nat) (r1 r2 : Option Nat) : eMet l E yX7_reason (ws_ yX7_reason cX7_reason 2 (some .int)) ({ frames := 3, cells := 0, slots := 0, locals := 41 }) [.ref a] [eO a 7 [.ref a, va_rf r1, va_rf r2, .ref (E.2.2.2 13), .null, .int 0]] (fun w Γ => w = some (.int 1) ∧ Γ = [eUg E a a 13 r1 r2]) := by
  refine eStart (cc := cX7_reason) (nL := 2) (L := [some (.ref a), none]) hl (by decide) rfl (List.forall_mem_cons.mpr ⟨rfl, (fun _ h => absurd h List.not_mem_nil)⟩) (Nat.le_of_ble_eq_true rfl) ?_
  intro x rs C
  show eZ x E (eQ x E (fun w Γ => w = some (.int 1) ∧ Γ = [eUg E a a 13 r1 r2]) rs) [eO a 7 [.ref a, va_rf r1, va_rf r2, .ref (E.2.2.2 13), .null, .int 0], rs] 0 [some (.ref a), none] [] 0 0
  generalize hQ_ : eQ x E (fun w Γ => w = some (.int 1) ∧ Γ = [eUg E a a 13 r1 r2]) rs = Q_
  refine z_aload_n C dX7_reason_0 rfl rfl ?_
  refine z_gc (w := .ref a) (ans := .null) 0 C rfl dX7_reason_1 rfl rfl rfl (Or.inl ⟨rfl, rfl⟩) (Nat.le_of_ble_eq_true rfl) (Nat.le_of_ble_eq_true rfl) ?_
  refine z_astore_nR (r := none) (L2 := [some (.ref a), some (.null)]) C dX7_reason_4 rfl (Nat.le_of_ble_eq_true rfl) rfl ?_
  refine z_aload_nR (r := none) C dX7_reason_5 rfl rfl ?_
  refine z_instN C dX7_reason_6 ?_
  refine z_if_eq 22 C dX7_reason_9 (by decide) (fun h1 => ?_) (fun h1 => ?_)
  · refine z_iconst (v := 1) C dX7_reason_22 (by decide) ?_
    subst hQ_
    exact z_ret (Γ := [eO a 7 [.ref a, va_rf r1, va_rf r2, .ref (E.2.2.2 13), .null, .int 0]]) C dX7_reason_23 rfl rfl (Nat.le_of_ble_eq_true rfl) (Nat.le_of_ble_eq_true rfl) ⟨rfl, rfl⟩
  · exact absurd rfl h1

set_option maxHeartbeats 4000000 in
theorem m_reason_D {l : Launch} (hl : l.stackTraces = false) (E : eEn) (a q2 : Nat) (r1 r2 r3 r4 : Option Nat) : eMet l E yX7_reason (ws_ yX7_reason cX7_reason 2 (some .int)) ({ frames := 3, cells := 0, slots := 0, locals := 41 }) [.ref a] [eO a 7 [.ref q2, va_rf r1, va_rf r2, .ref (E.2.2.2 14), .null, .int 0], eO q2 8 [.int 2, .ref q2, va_rf r3, va_rf r4, .ref (E.2.2.2 15), .null, .int 0]] (fun w Γ => w = some (.int 2) ∧ Γ = [eUg E a q2 14 r1 r2, eDk E q2 r3 r4]) := by
  refine eStart (cc := cX7_reason) (nL := 2) (L := [some (.ref a), none]) hl (by decide) rfl (List.forall_mem_cons.mpr ⟨rfl, (fun _ h => absurd h List.not_mem_nil)⟩) (Nat.le_of_ble_eq_true rfl) ?_
  intro x rs C
  show eZ x E (eQ x E (fun w Γ => w = some (.int 2) ∧ Γ = [eUg E a q2 14 r1 r2, eDk E q2 r3 r4]) rs) [eO a 7 [.ref q2, va_rf r1, va_rf r2, .ref (E.2.2.2 14), .null, .int 0], eO q2 8 [.int 2, .ref q2, va_rf r3, va_rf r4, .ref (E.2.2.2 15), .null, .int 0], rs] 0 [some (.ref a), none] [] 0 0
  generalize hQ_ : eQ x E (fun w Γ => w = some (.int 2) ∧ Γ = [eUg E a q2 14 r1 r2, eDk E q2 r3 r4]) rs = Q_
  refine z_aload_n C dX7_reason_0 rfl rfl ?_
  refine z_apart (fun hap_ => ?_)
  have hne : q2 ≠ a := fun h => by subst h; simp at hap_
  refine z_gc (w := .ref q2) (ans := .ref q2) 0 C rfl dX7_reason_1 rfl rfl rfl (Or.inr ⟨q2, rfl, hne, rfl⟩) (Nat.le_of_ble_eq_true rfl) (Nat.le_of_ble_eq_true rfl) ?_
  refine z_astore_n (L2 := [some (.ref a), some (.ref q2)]) C dX7_reason_4 rfl (Nat.le_of_ble_eq_true rfl) rfl ?_
  refine z_aload_n C dX7_reason_5 rfl rfl ?_
  refine z_instY C dX7_reason_6 (eIn (i := 1) rfl List.mem_cons_self) (show eCl[8]? = some _ from rfl) rfl q1254 q1958 ?_
  refine z_if_eq 22 C dX7_reason_9 (by decide) (fun h1 => ?_) (fun h1 => ?_)
  · exact absurd h1 (by decide)
  · refine z_aload_n C dX7_reason_12 rfl rfl ?_
    refine z_castY C dX7_reason_13 (eIn (i := 1) rfl List.mem_cons_self) (show eCl[8]? = some _ from rfl) rfl q1254 q1958 ?_
    refine z_getN eK8 1 0 C dX7_reason_16 rfl rfl q1135 (eSame1 rfl) (by decide) rfl ?_
    refine z_goto 23 C dX7_reason_19 (by decide) ?_
    subst hQ_
    exact z_ret (Γ := [eO a 7 [.ref q2, va_rf r1, va_rf r2, .ref (E.2.2.2 14), .null, .int 0], eO q2 8 [.int 2, .ref q2, va_rf r3, va_rf r4, .ref (E.2.2.2 15), .null, .int 0]]) C dX7_reason_23 rfl rfl (Nat.le_of_ble_eq_true rfl) (Nat.le_of_ble_eq_true rfl) ⟨rfl, rfl⟩

set_option maxHeartbeats 4000000 in
theorem m_reason_B {l : Launch} (hl : l.stackTraces = false) (E : eEn) (a q2 : Nat) (r1 r2 r3 r4 : Option Nat) : eMet l E yX7_reason (ws_ yX7_reason cX7_reason 2 (some .int)) ({ frames := 3, cells := 0, slots := 0, locals := 41 }) [.ref a] [eO a 7 [.ref q2, va_rf r1, va_rf r2, .ref (E.2.2.2 14), .null, .int 0], eO q2 9 [.int 3, .ref q2, va_rf r3, va_rf r4, .ref (E.2.2.2 15), .null, .int 0]] (fun w Γ => w = some (.int 3) ∧ Γ = [eUg E a q2 14 r1 r2, eBk E q2 r3 r4]) := by
  refine eStart (cc := cX7_reason) (nL := 2) (L := [some (.ref a), none]) hl (by decide) rfl (List.forall_mem_cons.mpr ⟨rfl, (fun _ h => absurd h List.not_mem_nil)⟩) (Nat.le_of_ble_eq_true rfl) ?_
  intro x rs C
  show eZ x E (eQ x E (fun w Γ => w = some (.int 3) ∧ Γ = [eUg E a q2 14 r1 r2, eBk E q2 r3 r4]) rs) [eO a 7 [.ref q2, va_rf r1, va_rf r2, .ref (E.2.2.2 14), .null, .int 0], eO q2 9 [.int 3, .ref q2, va_rf r3, va_rf r4, .ref (E.2.2.2 15), .null, .int 0], rs] 0 [some (.ref a), none] [] 0 0
  generalize hQ_ : eQ x E (fun w Γ => w = some (.int 3) ∧ Γ = [eUg E a q2 14 r1 r2, eBk E q2 r3 r4]) rs = Q_
  refine z_aload_n C dX7_reason_0 rfl rfl ?_
  refine z_apart (fun hap_ => ?_)
  have hne : q2 ≠ a := fun h => by subst h; simp at hap_
  refine z_gc (w := .ref q2) (ans := .ref q2) 0 C rfl dX7_reason_1 rfl rfl rfl (Or.inr ⟨q2, rfl, hne, rfl⟩) (Nat.le_of_ble_eq_true rfl) (Nat.le_of_ble_eq_true rfl) ?_
  refine z_astore_n (L2 := [some (.ref a), some (.ref q2)]) C dX7_reason_4 rfl (Nat.le_of_ble_eq_true rfl) rfl ?_
  refine z_aload_n C dX7_reason_5 rfl rfl ?_
  refine z_instY C dX7_reason_6 (eIn (i := 1) rfl List.mem_cons_self) (show eCl[9]? = some _ from rfl) rfl q1254 q1957 ?_
  refine z_if_eq 22 C dX7_reason_9 (by decide) (fun h1 => ?_) (fun h1 => ?_)
  · exact absurd h1 (by decide)
  · refine z_aload_n C dX7_reason_12 rfl rfl ?_
    refine z_castY C dX7_reason_13 (eIn (i := 1) rfl List.mem_cons_self) (show eCl[9]? = some _ from rfl) rfl q1254 q1957 ?_
    refine z_getN eK9 1 0 C dX7_reason_16 rfl rfl q1135 (eSame1 rfl) (by decide) rfl ?_
    refine z_goto 23 C dX7_reason_19 (by decide) ?_
    subst hQ_
    exact z_ret (Γ := [eO a 7 [.ref q2, va_rf r1, va_rf r2, .ref (E.2.2.2 14), .null, .int 0], eO q2 9 [.int 3, .ref q2, va_rf r3, va_rf r4, .ref (E.2.2.2 15), .null, .int 0]]) C dX7_reason_23 rfl rfl (Nat.le_of_ble_eq_true rfl) (Nat.le_of_ble_eq_true rfl) ⟨rfl, rfl⟩
