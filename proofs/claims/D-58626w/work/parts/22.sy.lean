/-! ===== small methods of the system ===== -/
set_option maxRecDepth 100000
/-! the numbers of the system's objects -/
abbrev Eg : Type := Int32 × Int32 × Int32 × Int32 × Int32 × Int32
abbrev Eg.w (g : Eg) : Int32 := g.1
abbrev Eg.sh (g : Eg) : Int32 := g.2.1
abbrev Eg.y (g : Eg) : Int32 := g.2.2.1
abbrev Eg.c (g : Eg) : Int32 := g.2.2.2.1
abbrev Eg.sp (g : Eg) : Int32 := g.2.2.2.2.1
abbrev Eg.t (g : Eg) : Int32 := g.2.2.2.2.2
abbrev Cr : Type := Int32 × Int32 × Int32 × Int32 × Int32
abbrev Cr.eggs (g : Cr) : Int32 := g.1
abbrev Cr.cracked (g : Cr) : Int32 := g.2.1
abbrev Cr.sold (g : Cr) : Int32 := g.2.2.1
abbrev Cr.returned (g : Cr) : Int32 := g.2.2.2.1
abbrev Cr.all (g : Cr) : Int32 := g.2.2.2.2
abbrev Enr : Type := Int32 × Int32 × Int32 × Int32 × Bool
abbrev Enr.tick (g : Enr) : Int32 := g.1
abbrev Enr.lane (g : Enr) : Int32 := g.2.1
abbrev Enr.w (g : Enr) : Int32 := g.2.2.1
abbrev Enr.grade (g : Enr) : Int32 := g.2.2.2.1
abbrev Enr.cr (g : Enr) : Bool := g.2.2.2.2

def gPrice (g : Int32) : Int32 := if g < 4 then g + 1 else if g = 4 then 1 else 5
def gCrk (g : Eg) : Bool := decide (g.c ≠ -1)
def gByW (g : Eg) : Int32 := eMax 0 (eMin 3 (g.w / 10 - 4))
abbrev eEg (a : Nat) (g : Eg) : va_W := eO a 5 [.int g.w, .int g.sh, .int g.y, .int g.c, .int g.sp, .int g.t]
abbrev eCr (a : Nat) (c : Cr) : va_W := eO a 3 [.int c.eggs, .int c.cracked, .int c.sold, .int c.returned, .int c.all]
abbrev eEn_ (a : Nat) (e : Enr) : va_W := eO a 10 [.int e.tick, .int e.lane, .int e.w, .int e.grade, .int (eB e.cr)]
abbrev eRfB (E : eEn) (q : Nat) (c : Int32) (r1 r2 : Option Nat) : va_W := eO q 6 [.ref q, va_rf r1, va_rf r2, .ref (E.2.2.2 12), .null, .int 0, .int c]
theorem ePm {α : Type} {Γ : List α} {ks : List Nat} (n : Nat) (h1 : Γ.length = n) (h2 : ks.isPerm (List.range n) = true) : ks.isPerm (List.range Γ.length) = true := by rw [h1]; exact h2
def eBt (v lo hi : Int32) : Bool := decide (lo ≤ v ∧ v ≤ hi)
theorem eBt64 (v lo hi : Int32) : decide (lo.toInt64 ≤ v.toInt64 ∧ v.toInt64 ≤ hi.toInt64) = eBt v lo hi := by
  unfold eBt
  simp only [Int64.le_iff_toInt_le, Int32.le_iff_toInt_le, Int32.toInt_toInt64]
theorem m_bt {l : Launch} (hl : l.stackTraces = false) (E : eEn) (v lo hi : Int32) (a b : Int64) (ha : a = lo.toInt64) (hb : b = hi.toInt64) : eMet l E yX0_isBetween (ws_ yX0_isBetween cX0_isBetween 6 (some .boolean)) ({ frames := 0, cells := 0, slots := 0, locals := 0 }) [.long v.toInt64, .long a, .long b] [] (fun w Γ => w = some (.int (eB (eBt v lo hi))) ∧ Γ = []) := by
  subst ha hb
  have h := m_isBetween hl E v.toInt64 lo.toInt64 hi.toInt64
  rw [eBt64] at h
  exact h

set_option maxHeartbeats 4000000 in
theorem m_isLane {l : Launch} (hl : l.stackTraces = false) (E : eEn) (v : Int32) : eMet l E yX0_isLane (ws_ yX0_isLane cX0_isLane 1 (some .boolean)) ({ frames := 1, cells := 0, slots := 0, locals := 25 }) [.int v] [] (fun w Γ => w = some (.int (eB (eBt v 0 3))) ∧ Γ = []) := by
  refine eStart (cc := cX0_isLane) (nL := 1) (L := [some (.int v)]) hl (by decide) rfl (List.forall_mem_cons.mpr ⟨rfl, (fun _ h => absurd h List.not_mem_nil)⟩) (Nat.le_of_ble_eq_true rfl) ?_
  intro x rs C
  show eZ x E (eQ x E (fun w Γ => w = some (.int (eB (eBt v 0 3))) ∧ Γ = []) rs) [rs] 0 [some (.int v)] [] 0 0
  generalize hQ_ : eQ x E (fun w Γ => w = some (.int (eB (eBt v 0 3))) ∧ Γ = []) rs = Q_
  refine z_iload_n C dX0_isLane_0 rfl rfl ?_
  refine z_i2l (v := v.toInt64) C dX0_isLane_1 rfl ?_
  refine z_lconst (v := 0) C dX0_isLane_2 (by decide) ?_
  refine z_ldc2 C dX0_isLane_3 rfl q985 ?_
  refine z_callS (As := [.long v.toInt64, .long 0, .long 3]) (rest := []) (Δ := [rs]) [] [0] 3 (m_bt hl E v 0 3 0 3 (by decide) (by decide)) C dX0_isLane_6 rfl rfl rfl q986 q987 q49 q988 (by decide +kernel) rfl (ePm 1 rfl (by decide +kernel)) rfl rfl ⟨Nat.le_of_ble_eq_true rfl, Nat.le_of_ble_eq_true rfl⟩ (Nat.le_trans eS0 (Nat.le_of_ble_eq_true rfl)) ⟨Nat.le_of_ble_eq_true rfl, Nat.le_of_ble_eq_true rfl⟩ (fun v_ Γ_ hp_ => ?_)
  obtain ⟨rfl, rfl⟩ := hp_
  show eZ x E _ [rs] 9 [some (.int v)] [.int (eB (eBt v 0 3))] 0 0
  subst hQ_
  exact z_ret (Γ := []) C dX0_isLane_9 rfl (eB_nar _) (Nat.le_of_ble_eq_true rfl) (Nat.le_of_ble_eq_true rfl) ⟨rfl, rfl⟩

set_option maxHeartbeats 4000000 in
theorem m_isGrade {l : Launch} (hl : l.stackTraces = false) (E : eEn) (v : Int32) : eMet l E yX0_isGrade (ws_ yX0_isGrade cX0_isGrade 1 (some .boolean)) ({ frames := 1, cells := 0, slots := 0, locals := 25 }) [.int v] [] (fun w Γ => w = some (.int (eB (eBt v 0 5))) ∧ Γ = []) := by
  refine eStart (cc := cX0_isGrade) (nL := 1) (L := [some (.int v)]) hl (by decide) rfl (List.forall_mem_cons.mpr ⟨rfl, (fun _ h => absurd h List.not_mem_nil)⟩) (Nat.le_of_ble_eq_true rfl) ?_
  intro x rs C
  show eZ x E (eQ x E (fun w Γ => w = some (.int (eB (eBt v 0 5))) ∧ Γ = []) rs) [rs] 0 [some (.int v)] [] 0 0
  generalize hQ_ : eQ x E (fun w Γ => w = some (.int (eB (eBt v 0 5))) ∧ Γ = []) rs = Q_
  refine z_iload_n C dX0_isGrade_0 rfl rfl ?_
  refine z_i2l (v := v.toInt64) C dX0_isGrade_1 rfl ?_
  refine z_lconst (v := 0) C dX0_isGrade_2 (by decide) ?_
  refine z_ldc2 C dX0_isGrade_3 rfl q1350 ?_
  refine z_callS (As := [.long v.toInt64, .long 0, .long 5]) (rest := []) (Δ := [rs]) [] [0] 3 (m_bt hl E v 0 5 0 5 (by decide) (by decide)) C dX0_isGrade_6 rfl rfl rfl q986 q987 q49 q988 (by decide +kernel) rfl (ePm 1 rfl (by decide +kernel)) rfl rfl ⟨Nat.le_of_ble_eq_true rfl, Nat.le_of_ble_eq_true rfl⟩ (Nat.le_trans eS0 (Nat.le_of_ble_eq_true rfl)) ⟨Nat.le_of_ble_eq_true rfl, Nat.le_of_ble_eq_true rfl⟩ (fun v_ Γ_ hp_ => ?_)
  obtain ⟨rfl, rfl⟩ := hp_
  show eZ x E _ [rs] 9 [some (.int v)] [.int (eB (eBt v 0 5))] 0 0
  subst hQ_
  exact z_ret (Γ := []) C dX0_isGrade_9 rfl (eB_nar _) (Nat.le_of_ble_eq_true rfl) (Nat.le_of_ble_eq_true rfl) ⟨rfl, rfl⟩

set_option maxHeartbeats 4000000 in
theorem m_isSpots {l : Launch} (hl : l.stackTraces = false) (E : eEn) (v : Int32) : eMet l E yX0_isSpots (ws_ yX0_isSpots cX0_isSpots 1 (some .boolean)) ({ frames := 1, cells := 0, slots := 0, locals := 25 }) [.int v] [] (fun w Γ => w = some (.int (eB (eBt v 0 255))) ∧ Γ = []) := by
  refine eStart (cc := cX0_isSpots) (nL := 1) (L := [some (.int v)]) hl (by decide) rfl (List.forall_mem_cons.mpr ⟨rfl, (fun _ h => absurd h List.not_mem_nil)⟩) (Nat.le_of_ble_eq_true rfl) ?_
  intro x rs C
  show eZ x E (eQ x E (fun w Γ => w = some (.int (eB (eBt v 0 255))) ∧ Γ = []) rs) [rs] 0 [some (.int v)] [] 0 0
  generalize hQ_ : eQ x E (fun w Γ => w = some (.int (eB (eBt v 0 255))) ∧ Γ = []) rs = Q_
  refine z_iload_n C dX0_isSpots_0 rfl rfl ?_
  refine z_i2l (v := v.toInt64) C dX0_isSpots_1 rfl ?_
  refine z_lconst (v := 0) C dX0_isSpots_2 (by decide) ?_
  refine z_ldc2 C dX0_isSpots_3 rfl q996 ?_
  refine z_callS (As := [.long v.toInt64, .long 0, .long 255]) (rest := []) (Δ := [rs]) [] [0] 3 (m_bt hl E v 0 255 0 255 (by decide) (by decide)) C dX0_isSpots_6 rfl rfl rfl q986 q987 q49 q988 (by decide +kernel) rfl (ePm 1 rfl (by decide +kernel)) rfl rfl ⟨Nat.le_of_ble_eq_true rfl, Nat.le_of_ble_eq_true rfl⟩ (Nat.le_trans eS0 (Nat.le_of_ble_eq_true rfl)) ⟨Nat.le_of_ble_eq_true rfl, Nat.le_of_ble_eq_true rfl⟩ (fun v_ Γ_ hp_ => ?_)
  obtain ⟨rfl, rfl⟩ := hp_
  show eZ x E _ [rs] 9 [some (.int v)] [.int (eB (eBt v 0 255))] 0 0
  subst hQ_
  exact z_ret (Γ := []) C dX0_isSpots_9 rfl (eB_nar _) (Nat.le_of_ble_eq_true rfl) (Nat.le_of_ble_eq_true rfl) ⟨rfl, rfl⟩

set_option maxHeartbeats 4000000 in
theorem m_price {l : Launch} (hl : l.stackTraces = false) (E : eEn) (g : Int32) : eMet l E yX0_price (ws_ yX0_price cX0_price 1 (some .int)) ({ frames := 0, cells := 0, slots := 0, locals := 0 }) [.int g] [] (fun v Γ => v = some (.int (gPrice g)) ∧ Γ = []) := by
  refine eStart (cc := cX0_price) (nL := 1) (L := [some (.int g)]) hl (by decide) rfl (List.forall_mem_cons.mpr ⟨rfl, (fun _ h => absurd h List.not_mem_nil)⟩) (Nat.le_of_ble_eq_true rfl) ?_
  intro x rs C
  show eZ x E (eQ x E (fun v Γ => v = some (.int (gPrice g)) ∧ Γ = []) rs) [rs] 0 [some (.int g)] [] 0 0
  generalize hQ_ : eQ x E (fun v Γ => v = some (.int (gPrice g)) ∧ Γ = []) rs = Q_
  refine z_iload_n C dX0_price_0 rfl rfl ?_
  refine z_iconst (v := 4) C dX0_price_1 (by decide) ?_
  refine z_icmp_ge 11 C dX0_price_2 (by decide) (fun h1 => ?_) (fun h1 => ?_)
  · refine z_iload_n C dX0_price_11 rfl rfl ?_
    refine z_iconst (v := 4) C dX0_price_12 (by decide) ?_
    refine z_icmp_ne 20 C dX0_price_13 (by decide) (fun h2 => ?_) (fun h2 => ?_)
    · refine z_iconst (v := 5) C dX0_price_20 (by decide) ?_
      subst hQ_
      exact z_ret (Γ := []) C dX0_price_21 rfl rfl (Nat.le_of_ble_eq_true rfl) (Nat.le_of_ble_eq_true rfl) ⟨by rw [gPrice, if_neg (Int32.not_lt.mpr h1), if_neg h2], rfl⟩
    · refine z_iconst (v := 1) C dX0_price_16 (by decide) ?_
      refine z_goto 21 C dX0_price_17 (by decide) ?_
      subst hQ_
      exact z_ret (Γ := []) C dX0_price_21 rfl rfl (Nat.le_of_ble_eq_true rfl) (Nat.le_of_ble_eq_true rfl) ⟨by rw [gPrice, if_neg (Int32.not_lt.mpr h1), if_pos h2], rfl⟩
  · refine z_iload_n C dX0_price_5 rfl rfl ?_
    refine z_iconst (v := 1) C dX0_price_6 (by decide) ?_
    refine z_iadd (w := g + 1) C dX0_price_7 rfl ?_
    refine z_goto 21 C dX0_price_8 (by decide) ?_
    subst hQ_
    exact z_ret (Γ := []) C dX0_price_21 rfl rfl (Nat.le_of_ble_eq_true rfl) (Nat.le_of_ble_eq_true rfl) ⟨by rw [gPrice, if_pos (Int32.not_le.mp h1)], rfl⟩

set_option maxHeartbeats 4000000 in
theorem m_orNotFound {l : Launch} (hl : l.stackTraces = false) (E : eEn) (b : Bool) (v : Int32) : eMet l E yX0_orNotFound (ws_ yX0_orNotFound cX0_orNotFound 2 (some .int)) ({ frames := 0, cells := 0, slots := 0, locals := 0 }) [.int (eB b), .int v] [] (fun w Γ => w = some (.int (if b = true then v else -1000004)) ∧ Γ = []) := by
  refine eStart (cc := cX0_orNotFound) (nL := 2) (L := [some (.int (eB b)), some (.int v)]) hl (by decide) rfl (List.forall_mem_cons.mpr ⟨rfl, (List.forall_mem_cons.mpr ⟨rfl, (fun _ h => absurd h List.not_mem_nil)⟩)⟩) (Nat.le_of_ble_eq_true rfl) ?_
  intro x rs C
  show eZ x E (eQ x E (fun w Γ => w = some (.int (if b = true then v else -1000004)) ∧ Γ = []) rs) [rs] 0 [some (.int (eB b)), some (.int v)] [] 0 0
  generalize hQ_ : eQ x E (fun w Γ => w = some (.int (if b = true then v else -1000004)) ∧ Γ = []) rs = Q_
  refine z_iload_n C dX0_orNotFound_0 rfl rfl ?_
  refine z_if_eq_B 8 C dX0_orNotFound_1 (by decide) (fun h1 => ?_) (fun h1 => ?_)
  · refine z_ldc C dX0_orNotFound_8 rfl q1351 ?_
    subst hQ_
    exact z_ret (Γ := []) C dX0_orNotFound_10 rfl rfl (Nat.le_of_ble_eq_true rfl) (Nat.le_of_ble_eq_true rfl) ⟨by rw [h1]; rfl, rfl⟩
  · refine z_iload_n C dX0_orNotFound_4 rfl rfl ?_
    refine z_goto 10 C dX0_orNotFound_5 (by decide) ?_
    subst hQ_
    exact z_ret (Γ := []) C dX0_orNotFound_10 rfl rfl (Nat.le_of_ble_eq_true rfl) (Nat.le_of_ble_eq_true rfl) ⟨by rw [h1]; rfl, rfl⟩

set_option maxHeartbeats 4000000 in
theorem m_need {l : Launch} (hl : l.stackTraces = false) (E : eEn) (b : Bool) (c : Int32) : eMetX l E yX0_need (ws_ yX0_need cX0_need 2 none) ({ frames := 6, cells := 1, slots := 7, locals := 103 }) [.int (eB b), .int c] [] (fun v Γ => b = true ∧ v = none ∧ Γ = []) (fun q En Γ => b = false ∧ En = RX6 ∧ ∃ r1 r2, Γ = [eRfB E q c r1 r2]) := by
  refine eStartX (cc := cX0_need) (nL := 2) (L := [some (.int (eB b)), some (.int c)]) hl (by decide) rfl (List.forall_mem_cons.mpr ⟨rfl, (List.forall_mem_cons.mpr ⟨rfl, (fun _ h => absurd h List.not_mem_nil)⟩)⟩) (Nat.le_of_ble_eq_true rfl) ?_
  intro x rs C hT
  show eZ x E (eQX x E (fun v Γ => b = true ∧ v = none ∧ Γ = []) (fun q En Γ => b = false ∧ En = RX6 ∧ ∃ r1 r2, Γ = [eRfB E q c r1 r2]) rs) [rs] 0 [some (.int (eB b)), some (.int c)] [] 0 0
  generalize hQ_ : eQX x E (fun v Γ => b = true ∧ v = none ∧ Γ = []) (fun q En Γ => b = false ∧ En = RX6 ∧ ∃ r1 r2, Γ = [eRfB E q c r1 r2]) rs = Q_
  refine z_iload_n C dX0_need_0 rfl rfl ?_
  refine z_if_ne_B 13 C dX0_need_1 (by decide) (fun h1 => ?_) (fun h1 => ?_)
  · subst hQ_
    refine z_X ?_
    exact z_vret (Γ := []) C dX0_need_13 rfl (Nat.le_of_ble_eq_true rfl) (Nat.le_of_ble_eq_true rfl) ⟨h1, rfl, rfl⟩
  · refine z_new (fs := [.null, .null, .null, .null, .null, .int 0, .int 0]) eK6 C dX0_need_4 rfl q418 q1004 q82 rfl (Nat.le_of_ble_eq_true rfl) (Nat.le_of_ble_eq_true rfl) (fun o1 => ?_)
    show eZ x E _ [rs, eO o1 6 [.null, .null, .null, .null, .null, .int 0, .int 0]] 7 [some (.int (eB b)), some (.int c)] [.ref o1] 1 7
    refine z_dup C dX0_need_7 rfl ?_
    refine z_iload_n C dX0_need_8 rfl rfl ?_
    refine z_callI (As := [.int c]) (rest := [.ref o1]) (Δ := [rs]) [1] [0] 1 (m_Refused_init hl E o1 c) C dX0_need_9 rfl rfl rfl q1012 q1013 q82 q1014 rfl (by decide +kernel) rfl (ePm 2 rfl (by decide +kernel)) rfl rfl ⟨Nat.le_of_ble_eq_true rfl, Nat.le_of_ble_eq_true rfl⟩ (Nat.le_trans (eSm rfl eS0) (Nat.le_of_ble_eq_true rfl)) ⟨Nat.le_of_ble_eq_true rfl, Nat.le_of_ble_eq_true rfl⟩ (fun v_ Γ_ hp_ => ?_)
    obtain ⟨rfl, r1, r2, rfl⟩ := hp_
    show eZ x E _ [eRfB E o1 c r1 r2, rs] 12 [some (.int (eB b)), some (.int c)] [.ref o1] 1 7
    refine z_throw C dX0_need_12 ?_
    show eY x E _ [eRfB E o1 c r1 r2, rs] 12 [some (.int (eB b)), some (.int c)] [] o1 1 7
    subst hQ_
    exact z_out (Γ := [eRfB E o1 c r1 r2]) C hT (by decide) (eIn (i := 0) rfl List.mem_cons_self) (show eCl[6]? = some _ from rfl) (Nat.le_of_ble_eq_true rfl) (Nat.le_of_ble_eq_true rfl) ⟨h1, rfl, r1, r2, rfl⟩

set_option maxHeartbeats 4000000 in
theorem m_Egg_init2 {l : Launch} (hl : l.stackTraces = false) (E : eEn) (a : Nat) (w sh sp y c : Int32) : eMet l E yX5_init_2 (ws_ yX5_init_2 cX5_init_2 6 none) ({ frames := 1, cells := 0, slots := 0, locals := 12 }) [.ref a, .int w, .int sh, .int sp, .int y, .int c] [eO a 5 [.int 0, .int 0, .int 0, .int 0, .int 0, .int 0]] (fun v Γ => v = none ∧ Γ = [eEg a ⟨w, sh, y, c, sp, 0⟩]) := by
  refine eStart (cc := cX5_init_2) (nL := 6) (L := [some (.ref a), some (.int w), some (.int sh), some (.int sp), some (.int y), some (.int c)]) hl (by decide) rfl (List.forall_mem_cons.mpr ⟨rfl, (List.forall_mem_cons.mpr ⟨rfl, (List.forall_mem_cons.mpr ⟨rfl, (List.forall_mem_cons.mpr ⟨rfl, (List.forall_mem_cons.mpr ⟨rfl, (List.forall_mem_cons.mpr ⟨rfl, (fun _ h => absurd h List.not_mem_nil)⟩)⟩)⟩)⟩)⟩)⟩) (Nat.le_of_ble_eq_true rfl) ?_
  intro x rs C
  show eZ x E (eQ x E (fun v Γ => v = none ∧ Γ = [eEg a ⟨w, sh, y, c, sp, 0⟩]) rs) [eO a 5 [.int 0, .int 0, .int 0, .int 0, .int 0, .int 0], rs] 0 [some (.ref a), some (.int w), some (.int sh), some (.int sp), some (.int y), some (.int c)] [] 0 0
  generalize hQ_ : eQ x E (fun v Γ => v = none ∧ Γ = [eEg a ⟨w, sh, y, c, sp, 0⟩]) rs = Q_
  refine z_aload_n C dX5_init_2_0 rfl rfl ?_
  refine z_objInit C dX5_init_2_1 rfl rfl q905 q99 q100 (Nat.le_of_ble_eq_true rfl) (Nat.le_of_ble_eq_true rfl) ?_
  refine z_aload_n C dX5_init_2_4 rfl rfl ?_
  refine z_iload_n C dX5_init_2_5 rfl rfl ?_
  refine z_putF eK5 0 0 (Γ2 := [eO a 5 [.int w, .int 0, .int 0, .int 0, .int 0, .int 0], rs]) C dX5_init_2_6 rfl rfl q906 (eSame1 rfl) (by decide) rfl rfl rfl rfl rfl rfl (Nat.le_of_ble_eq_true rfl) rfl ?_
  refine z_aload_n C dX5_init_2_9 rfl rfl ?_
  refine z_iload_n C dX5_init_2_10 rfl rfl ?_
  refine z_putF eK5 0 1 (Γ2 := [eO a 5 [.int w, .int sh, .int 0, .int 0, .int 0, .int 0], rs]) C dX5_init_2_11 rfl rfl q910 (eSame1 rfl) (by decide) rfl rfl rfl rfl rfl rfl (Nat.le_of_ble_eq_true rfl) rfl ?_
  refine z_aload_n C dX5_init_2_14 rfl rfl ?_
  refine z_iload_n C dX5_init_2_15 rfl rfl ?_
  refine z_put eK5 0 4 (Γ2 := [eO a 5 [.int w, .int sh, .int 0, .int 0, .int sp, .int 0], rs]) C dX5_init_2_16 rfl rfl q919 (eSame1 rfl) (by decide) rfl rfl rfl rfl (Nat.le_of_ble_eq_true rfl) rfl ?_
  refine z_aload_n C dX5_init_2_19 rfl rfl ?_
  refine z_iload C dX5_init_2_20 rfl ?_
  refine z_putF eK5 0 2 (Γ2 := [eO a 5 [.int w, .int sh, .int y, .int 0, .int sp, .int 0], rs]) C dX5_init_2_22 rfl rfl q913 (eSame1 rfl) (by decide) rfl rfl rfl rfl rfl rfl (Nat.le_of_ble_eq_true rfl) rfl ?_
  refine z_aload_n C dX5_init_2_25 rfl rfl ?_
  refine z_iload C dX5_init_2_26 rfl ?_
  refine z_putF eK5 0 3 (Γ2 := [eO a 5 [.int w, .int sh, .int y, .int c, .int sp, .int 0], rs]) C dX5_init_2_28 rfl rfl q916 (eSame1 rfl) (by decide) rfl rfl rfl rfl rfl rfl (Nat.le_of_ble_eq_true rfl) rfl ?_
  subst hQ_
  exact z_vret (Γ := [eO a 5 [.int w, .int sh, .int y, .int c, .int sp, .int 0]]) C dX5_init_2_31 rfl (Nat.le_of_ble_eq_true rfl) (Nat.le_of_ble_eq_true rfl) ⟨rfl, rfl⟩

set_option maxHeartbeats 4000000 in
theorem m_Egg_init {l : Launch} (hl : l.stackTraces = false) (E : eEn) (a b : Nat) (g : Eg) : eMet l E yX5_init (ws_ yX5_init cX5_init 2 none) ({ frames := 2, cells := 0, slots := 0, locals := 37 }) [.ref a, .ref b] [eO a 5 [.int 0, .int 0, .int 0, .int 0, .int 0, .int 0], eO b 5 [.int g.w, .int g.sh, .int g.y, .int g.c, .int g.sp, .int g.t]] (fun v Γ => v = none ∧ Γ = [eEg a g, eEg b g]) := by
  refine eStart (cc := cX5_init) (nL := 2) (L := [some (.ref a), some (.ref b)]) hl (by decide) rfl (List.forall_mem_cons.mpr ⟨rfl, (List.forall_mem_cons.mpr ⟨rfl, (fun _ h => absurd h List.not_mem_nil)⟩)⟩) (Nat.le_of_ble_eq_true rfl) ?_
  intro x rs C
  show eZ x E (eQ x E (fun v Γ => v = none ∧ Γ = [eEg a g, eEg b g]) rs) [eO a 5 [.int 0, .int 0, .int 0, .int 0, .int 0, .int 0], eO b 5 [.int g.w, .int g.sh, .int g.y, .int g.c, .int g.sp, .int g.t], rs] 0 [some (.ref a), some (.ref b)] [] 0 0
  generalize hQ_ : eQ x E (fun v Γ => v = none ∧ Γ = [eEg a g, eEg b g]) rs = Q_
  refine z_aload_n C dX5_init_0 rfl rfl ?_
  refine z_aload_n C dX5_init_1 rfl rfl ?_
  refine z_get eK5 1 0 C dX5_init_2 rfl rfl q906 (eSame1 rfl) (by decide) rfl ?_
  refine z_aload_n C dX5_init_5 rfl rfl ?_
  refine z_get eK5 1 1 C dX5_init_6 rfl rfl q910 (eSame1 rfl) (by decide) rfl ?_
  refine z_aload_n C dX5_init_9 rfl rfl ?_
  refine z_get eK5 1 4 C dX5_init_10 rfl rfl q919 (eSame1 rfl) (by decide) rfl ?_
  refine z_aload_n C dX5_init_13 rfl rfl ?_
  refine z_get eK5 1 2 C dX5_init_14 rfl rfl q913 (eSame1 rfl) (by decide) rfl ?_
  refine z_aload_n C dX5_init_17 rfl rfl ?_
  refine z_get eK5 1 3 C dX5_init_18 rfl rfl q916 (eSame1 rfl) (by decide) rfl ?_
  refine z_callI (As := [.int g.w, .int g.sh, .int g.sp, .int g.y, .int g.c]) (rest := []) (Δ := [eO b 5 [.int g.w, .int g.sh, .int g.y, .int g.c, .int g.sp, .int g.t], rs]) [0] [1, 2] 5 (m_Egg_init2 hl E a g.w g.sh g.sp g.y g.c) C dX5_init_21 rfl rfl rfl q902 q903 q80 q904 rfl (by decide +kernel) rfl (ePm 3 rfl (by decide +kernel)) rfl rfl ⟨Nat.le_of_ble_eq_true rfl, Nat.le_of_ble_eq_true rfl⟩ (Nat.le_trans eS0 (Nat.le_of_ble_eq_true rfl)) ⟨Nat.le_of_ble_eq_true rfl, Nat.le_of_ble_eq_true rfl⟩ (fun v_ Γ_ hp_ => ?_)
  obtain ⟨rfl, rfl⟩ := hp_
  show eZ x E _ [eO a 5 [.int g.w, .int g.sh, .int g.y, .int g.c, .int g.sp, .int 0], eO b 5 [.int g.w, .int g.sh, .int g.y, .int g.c, .int g.sp, .int g.t], rs] 24 [some (.ref a), some (.ref b)] [] 0 0
  refine z_aload_n C dX5_init_24 rfl rfl ?_
  refine z_aload_n C dX5_init_25 rfl rfl ?_
  refine z_get eK5 1 5 C dX5_init_26 rfl rfl q922 (eSame1 rfl) (by decide) rfl ?_
  refine z_put eK5 0 5 (Γ2 := [eO a 5 [.int g.w, .int g.sh, .int g.y, .int g.c, .int g.sp, .int g.t], eO b 5 [.int g.w, .int g.sh, .int g.y, .int g.c, .int g.sp, .int g.t], rs]) C dX5_init_29 rfl rfl q922 (eSame1 rfl) (by decide) rfl rfl rfl rfl (Nat.le_of_ble_eq_true rfl) rfl ?_
  subst hQ_
  exact z_vret (Γ := [eO a 5 [.int g.w, .int g.sh, .int g.y, .int g.c, .int g.sp, .int g.t], eO b 5 [.int g.w, .int g.sh, .int g.y, .int g.c, .int g.sp, .int g.t]]) C dX5_init_32 rfl (Nat.le_of_ble_eq_true rfl) (Nat.le_of_ble_eq_true rfl) ⟨rfl, rfl⟩

set_option maxHeartbeats 4000000 in
theorem m_isCracked {l : Launch} (hl : l.stackTraces = false) (E : eEn) (a : Nat) (g : Eg) : eMet l E yX5_isCracked (ws_ yX5_isCracked cX5_isCracked 1 (some .boolean)) ({ frames := 0, cells := 0, slots := 0, locals := 0 }) [.ref a] [eO a 5 [.int g.w, .int g.sh, .int g.y, .int g.c, .int g.sp, .int g.t]] (fun v Γ => v = some (.int (eB (gCrk g))) ∧ Γ = [eEg a g]) := by
  refine eStart (cc := cX5_isCracked) (nL := 1) (L := [some (.ref a)]) hl (by decide) rfl (List.forall_mem_cons.mpr ⟨rfl, (fun _ h => absurd h List.not_mem_nil)⟩) (Nat.le_of_ble_eq_true rfl) ?_
  intro x rs C
  show eZ x E (eQ x E (fun v Γ => v = some (.int (eB (gCrk g))) ∧ Γ = [eEg a g]) rs) [eO a 5 [.int g.w, .int g.sh, .int g.y, .int g.c, .int g.sp, .int g.t], rs] 0 [some (.ref a)] [] 0 0
  generalize hQ_ : eQ x E (fun v Γ => v = some (.int (eB (gCrk g))) ∧ Γ = [eEg a g]) rs = Q_
  refine z_aload_n C dX5_isCracked_0 rfl rfl ?_
  refine z_get eK5 0 3 C dX5_isCracked_1 rfl rfl q916 (eSame1 rfl) (by decide) rfl ?_
  refine z_iconst (v := (-1)) C dX5_isCracked_4 (by decide) ?_
  refine z_icmp_eq 12 C dX5_isCracked_5 (by decide) (fun h1 => ?_) (fun h1 => ?_)
  · refine z_iconst (v := 0) C dX5_isCracked_12 (by decide) ?_
    subst hQ_
    exact z_ret (Γ := [eO a 5 [.int g.w, .int g.sh, .int g.y, .int g.c, .int g.sp, .int g.t]]) C dX5_isCracked_13 rfl (by decide) (Nat.le_of_ble_eq_true rfl) (Nat.le_of_ble_eq_true rfl) ⟨by rw [gCrk, decide_eq_false (fun h => h h1)]; rfl, rfl⟩
  · refine z_iconst (v := 1) C dX5_isCracked_8 (by decide) ?_
    refine z_goto 13 C dX5_isCracked_9 (by decide) ?_
    subst hQ_
    exact z_ret (Γ := [eO a 5 [.int g.w, .int g.sh, .int g.y, .int g.c, .int g.sp, .int g.t]]) C dX5_isCracked_13 rfl (by decide) (Nat.le_of_ble_eq_true rfl) (Nat.le_of_ble_eq_true rfl) ⟨by rw [gCrk, decide_eq_true h1]; rfl, rfl⟩

set_option maxHeartbeats 4000000 in
theorem m_byWeight {l : Launch} (hl : l.stackTraces = false) (E : eEn) (a : Nat) (g : Eg) : eMet l E yX5_byWeight (ws_ yX5_byWeight cX5_byWeight 1 (some .int)) ({ frames := 1, cells := 0, slots := 0, locals := 21 }) [.ref a] [eO a 5 [.int g.w, .int g.sh, .int g.y, .int g.c, .int g.sp, .int g.t]] (fun v Γ => v = some (.int (gByW g)) ∧ Γ = [eEg a g]) := by
  refine eStart (cc := cX5_byWeight) (nL := 1) (L := [some (.ref a)]) hl (by decide) rfl (List.forall_mem_cons.mpr ⟨rfl, (fun _ h => absurd h List.not_mem_nil)⟩) (Nat.le_of_ble_eq_true rfl) ?_
  intro x rs C
  show eZ x E (eQ x E (fun v Γ => v = some (.int (gByW g)) ∧ Γ = [eEg a g]) rs) [eO a 5 [.int g.w, .int g.sh, .int g.y, .int g.c, .int g.sp, .int g.t], rs] 0 [some (.ref a)] [] 0 0
  generalize hQ_ : eQ x E (fun v Γ => v = some (.int (gByW g)) ∧ Γ = [eEg a g]) rs = Q_
  refine z_iconst (v := 0) C dX5_byWeight_0 (by decide) ?_
  refine z_iconst (v := 3) C dX5_byWeight_1 (by decide) ?_
  refine z_aload_n C dX5_byWeight_2 rfl rfl ?_
  refine z_get eK5 0 0 C dX5_byWeight_3 rfl rfl q906 (eSame1 rfl) (by decide) rfl ?_
  refine z_bipush (v := 10) C dX5_byWeight_6 (by decide) ?_
  refine z_idiv (w := g.w / 10) C dX5_byWeight_8 (by decide) rfl ?_
  refine z_iconst (v := 4) C dX5_byWeight_9 (by decide) ?_
  refine z_isub (w := (g.w / 10) - 4) C dX5_byWeight_10 rfl ?_
  refine z_callS (As := [.int 3, .int ((g.w / 10) - 4)]) (rest := [.int 0]) (Δ := [eO a 5 [.int g.w, .int g.sh, .int g.y, .int g.c, .int g.sp, .int g.t], rs]) [] [0, 1] 2 (m_Math_min hl E 3 (g.w / 10 - 4)) C dX5_byWeight_11 rfl rfl rfl q1170 q268 q58 q269 (by decide +kernel) rfl (ePm 2 rfl (by decide +kernel)) rfl rfl ⟨Nat.le_of_ble_eq_true rfl, Nat.le_of_ble_eq_true rfl⟩ (Nat.le_trans (eSm rfl eS0) (Nat.le_of_ble_eq_true rfl)) ⟨Nat.le_of_ble_eq_true rfl, Nat.le_of_ble_eq_true rfl⟩ (fun v_ Γ_ hp_ => ?_)
  obtain ⟨rfl, rfl⟩ := hp_
  show eZ x E _ [eO a 5 [.int g.w, .int g.sh, .int g.y, .int g.c, .int g.sp, .int g.t], rs] 14 [some (.ref a)] [.int (eMin 3 (g.w / 10 - 4)), .int 0] 0 0
  refine z_callS (As := [.int 0, .int (eMin 3 (g.w / 10 - 4))]) (rest := []) (Δ := [eO a 5 [.int g.w, .int g.sh, .int g.y, .int g.c, .int g.sp, .int g.t], rs]) [] [0, 1] 2 (m_Math_max hl E 0 (eMin 3 (g.w / 10 - 4))) C dX5_byWeight_14 rfl rfl rfl q1171 q225 q58 q226 (by decide +kernel) rfl (ePm 2 rfl (by decide +kernel)) rfl rfl ⟨Nat.le_of_ble_eq_true rfl, Nat.le_of_ble_eq_true rfl⟩ (Nat.le_trans eS0 (Nat.le_of_ble_eq_true rfl)) ⟨Nat.le_of_ble_eq_true rfl, Nat.le_of_ble_eq_true rfl⟩ (fun v_ Γ_ hp_ => ?_)
  obtain ⟨rfl, rfl⟩ := hp_
  show eZ x E _ [eO a 5 [.int g.w, .int g.sh, .int g.y, .int g.c, .int g.sp, .int g.t], rs] 17 [some (.ref a)] [.int (eMax 0 (eMin 3 (g.w / 10 - 4)))] 0 0
  subst hQ_
  exact z_ret (Γ := [eO a 5 [.int g.w, .int g.sh, .int g.y, .int g.c, .int g.sp, .int g.t]]) C dX5_byWeight_17 rfl rfl (Nat.le_of_ble_eq_true rfl) (Nat.le_of_ble_eq_true rfl) ⟨rfl, rfl⟩

set_option maxHeartbeats 4000000 in
theorem m_Crate_init {l : Launch} (hl : l.stackTraces = false) (E : eEn) (a : Nat) : eMet l E yX3_init (ws_ yX3_init cX3_init 1 none) ({ frames := 1, cells := 0, slots := 0, locals := 12 }) [.ref a] [eO a 3 [.int 0, .int 0, .int 0, .int 0, .int 0]] (fun v Γ => v = none ∧ Γ = [eCr a ⟨0, 0, 0, 0, 0⟩]) := by
  refine eStart (cc := cX3_init) (nL := 1) (L := [some (.ref a)]) hl (by decide) rfl (List.forall_mem_cons.mpr ⟨rfl, (fun _ h => absurd h List.not_mem_nil)⟩) (Nat.le_of_ble_eq_true rfl) ?_
  intro x rs C
  show eZ x E (eQ x E (fun v Γ => v = none ∧ Γ = [eCr a ⟨0, 0, 0, 0, 0⟩]) rs) [eO a 3 [.int 0, .int 0, .int 0, .int 0, .int 0], rs] 0 [some (.ref a)] [] 0 0
  generalize hQ_ : eQ x E (fun v Γ => v = none ∧ Γ = [eCr a ⟨0, 0, 0, 0, 0⟩]) rs = Q_
  refine z_aload_n C dX3_init_0 rfl rfl ?_
  refine z_objInit C dX3_init_1 rfl rfl q280 q99 q100 (Nat.le_of_ble_eq_true rfl) (Nat.le_of_ble_eq_true rfl) ?_
  subst hQ_
  exact z_vret (Γ := [eO a 3 [.int 0, .int 0, .int 0, .int 0, .int 0]]) C dX3_init_4 rfl (Nat.le_of_ble_eq_true rfl) (Nat.le_of_ble_eq_true rfl) ⟨rfl, rfl⟩

set_option maxHeartbeats 4000000 in
theorem m_Crate_init2 {l : Launch} (hl : l.stackTraces = false) (E : eEn) (a b : Nat) (c : Cr) : eMet l E yX3_init_2 (ws_ yX3_init_2 cX3_init_2 2 none) ({ frames := 1, cells := 0, slots := 0, locals := 12 }) [.ref a, .ref b] [eO a 3 [.int 0, .int 0, .int 0, .int 0, .int 0], eO b 3 [.int c.eggs, .int c.cracked, .int c.sold, .int c.returned, .int c.all]] (fun v Γ => v = none ∧ Γ = [eCr a c, eCr b c]) := by
  refine eStart (cc := cX3_init_2) (nL := 2) (L := [some (.ref a), some (.ref b)]) hl (by decide) rfl (List.forall_mem_cons.mpr ⟨rfl, (List.forall_mem_cons.mpr ⟨rfl, (fun _ h => absurd h List.not_mem_nil)⟩)⟩) (Nat.le_of_ble_eq_true rfl) ?_
  intro x rs C
  show eZ x E (eQ x E (fun v Γ => v = none ∧ Γ = [eCr a c, eCr b c]) rs) [eO a 3 [.int 0, .int 0, .int 0, .int 0, .int 0], eO b 3 [.int c.eggs, .int c.cracked, .int c.sold, .int c.returned, .int c.all], rs] 0 [some (.ref a), some (.ref b)] [] 0 0
  generalize hQ_ : eQ x E (fun v Γ => v = none ∧ Γ = [eCr a c, eCr b c]) rs = Q_
  refine z_aload_n C dX3_init_2_0 rfl rfl ?_
  refine z_objInit C dX3_init_2_1 rfl rfl q280 q99 q100 (Nat.le_of_ble_eq_true rfl) (Nat.le_of_ble_eq_true rfl) ?_
  refine z_aload_n C dX3_init_2_4 rfl rfl ?_
  refine z_aload_n C dX3_init_2_5 rfl rfl ?_
  refine z_get eK3 1 0 C dX3_init_2_6 rfl rfl q281 (eSame1 rfl) (by decide) rfl ?_
  refine z_put eK3 0 0 (Γ2 := [eO a 3 [.int c.eggs, .int 0, .int 0, .int 0, .int 0], eO b 3 [.int c.eggs, .int c.cracked, .int c.sold, .int c.returned, .int c.all], rs]) C dX3_init_2_9 rfl rfl q281 (eSame1 rfl) (by decide) rfl rfl rfl rfl (Nat.le_of_ble_eq_true rfl) rfl ?_
  refine z_aload_n C dX3_init_2_12 rfl rfl ?_
  refine z_aload_n C dX3_init_2_13 rfl rfl ?_
  refine z_get eK3 1 1 C dX3_init_2_14 rfl rfl q284 (eSame1 rfl) (by decide) rfl ?_
  refine z_put eK3 0 1 (Γ2 := [eO a 3 [.int c.eggs, .int c.cracked, .int 0, .int 0, .int 0], eO b 3 [.int c.eggs, .int c.cracked, .int c.sold, .int c.returned, .int c.all], rs]) C dX3_init_2_17 rfl rfl q284 (eSame1 rfl) (by decide) rfl rfl rfl rfl (Nat.le_of_ble_eq_true rfl) rfl ?_
  refine z_aload_n C dX3_init_2_20 rfl rfl ?_
  refine z_aload_n C dX3_init_2_21 rfl rfl ?_
  refine z_get eK3 1 2 C dX3_init_2_22 rfl rfl q287 (eSame1 rfl) (by decide) rfl ?_
  refine z_put eK3 0 2 (Γ2 := [eO a 3 [.int c.eggs, .int c.cracked, .int c.sold, .int 0, .int 0], eO b 3 [.int c.eggs, .int c.cracked, .int c.sold, .int c.returned, .int c.all], rs]) C dX3_init_2_25 rfl rfl q287 (eSame1 rfl) (by decide) rfl rfl rfl rfl (Nat.le_of_ble_eq_true rfl) rfl ?_
  refine z_aload_n C dX3_init_2_28 rfl rfl ?_
  refine z_aload_n C dX3_init_2_29 rfl rfl ?_
  refine z_get eK3 1 3 C dX3_init_2_30 rfl rfl q290 (eSame1 rfl) (by decide) rfl ?_
  refine z_put eK3 0 3 (Γ2 := [eO a 3 [.int c.eggs, .int c.cracked, .int c.sold, .int c.returned, .int 0], eO b 3 [.int c.eggs, .int c.cracked, .int c.sold, .int c.returned, .int c.all], rs]) C dX3_init_2_33 rfl rfl q290 (eSame1 rfl) (by decide) rfl rfl rfl rfl (Nat.le_of_ble_eq_true rfl) rfl ?_
  refine z_aload_n C dX3_init_2_36 rfl rfl ?_
  refine z_aload_n C dX3_init_2_37 rfl rfl ?_
  refine z_get eK3 1 4 C dX3_init_2_38 rfl rfl q293 (eSame1 rfl) (by decide) rfl ?_
  refine z_put eK3 0 4 (Γ2 := [eO a 3 [.int c.eggs, .int c.cracked, .int c.sold, .int c.returned, .int c.all], eO b 3 [.int c.eggs, .int c.cracked, .int c.sold, .int c.returned, .int c.all], rs]) C dX3_init_2_41 rfl rfl q293 (eSame1 rfl) (by decide) rfl rfl rfl rfl (Nat.le_of_ble_eq_true rfl) rfl ?_
  subst hQ_
  exact z_vret (Γ := [eO a 3 [.int c.eggs, .int c.cracked, .int c.sold, .int c.returned, .int c.all], eO b 3 [.int c.eggs, .int c.cracked, .int c.sold, .int c.returned, .int c.all]]) C dX3_init_2_44 rfl (Nat.le_of_ble_eq_true rfl) (Nat.le_of_ble_eq_true rfl) ⟨rfl, rfl⟩

set_option maxHeartbeats 4000000 in
theorem m_Entry_init {l : Launch} (hl : l.stackTraces = false) (E : eEn) (a e : Nat) (tk ln gr : Int32) (g : Eg) : eMet l E yX11_init (ws_ yX11_init cX11_init 5 none) ({ frames := 1, cells := 0, slots := 0, locals := 20 }) [.ref a, .int tk, .int ln, .int gr, .ref e] [eO a 10 [.int 0, .int 0, .int 0, .int 0, .int 0], eO e 5 [.int g.w, .int g.sh, .int g.y, .int g.c, .int g.sp, .int g.t]] (fun v Γ => v = none ∧ Γ = [eEn_ a ⟨tk, ln, g.w, gr, gCrk g⟩, eEg e g]) := by
  refine eStart (cc := cX11_init) (nL := 5) (L := [some (.ref a), some (.int tk), some (.int ln), some (.int gr), some (.ref e)]) hl (by decide) rfl (List.forall_mem_cons.mpr ⟨rfl, (List.forall_mem_cons.mpr ⟨rfl, (List.forall_mem_cons.mpr ⟨rfl, (List.forall_mem_cons.mpr ⟨rfl, (List.forall_mem_cons.mpr ⟨rfl, (fun _ h => absurd h List.not_mem_nil)⟩)⟩)⟩)⟩)⟩) (Nat.le_of_ble_eq_true rfl) ?_
  intro x rs C
  show eZ x E (eQ x E (fun v Γ => v = none ∧ Γ = [eEn_ a ⟨tk, ln, g.w, gr, gCrk g⟩, eEg e g]) rs) [eO a 10 [.int 0, .int 0, .int 0, .int 0, .int 0], eO e 5 [.int g.w, .int g.sh, .int g.y, .int g.c, .int g.sp, .int g.t], rs] 0 [some (.ref a), some (.int tk), some (.int ln), some (.int gr), some (.ref e)] [] 0 0
  generalize hQ_ : eQ x E (fun v Γ => v = none ∧ Γ = [eEn_ a ⟨tk, ln, g.w, gr, gCrk g⟩, eEg e g]) rs = Q_
  refine z_aload_n C dX11_init_0 rfl rfl ?_
  refine z_objInit C dX11_init_1 rfl rfl q1202 q99 q100 (Nat.le_of_ble_eq_true rfl) (Nat.le_of_ble_eq_true rfl) ?_
  refine z_aload_n C dX11_init_4 rfl rfl ?_
  refine z_iload_n C dX11_init_5 rfl rfl ?_
  refine z_putF eK10 0 0 (Γ2 := [eO a 10 [.int tk, .int 0, .int 0, .int 0, .int 0], eO e 5 [.int g.w, .int g.sh, .int g.y, .int g.c, .int g.sp, .int g.t], rs]) C dX11_init_6 rfl rfl q1204 (eSame1 rfl) (by decide) rfl rfl rfl rfl rfl rfl (Nat.le_of_ble_eq_true rfl) rfl ?_
  refine z_aload_n C dX11_init_9 rfl rfl ?_
  refine z_iload_n C dX11_init_10 rfl rfl ?_
  refine z_putF eK10 0 1 (Γ2 := [eO a 10 [.int tk, .int ln, .int 0, .int 0, .int 0], eO e 5 [.int g.w, .int g.sh, .int g.y, .int g.c, .int g.sp, .int g.t], rs]) C dX11_init_11 rfl rfl q1206 (eSame1 rfl) (by decide) rfl rfl rfl rfl rfl rfl (Nat.le_of_ble_eq_true rfl) rfl ?_
  refine z_aload_n C dX11_init_14 rfl rfl ?_
  refine z_iload_n C dX11_init_15 rfl rfl ?_
  refine z_putF eK10 0 3 (Γ2 := [eO a 10 [.int tk, .int ln, .int 0, .int gr, .int 0], eO e 5 [.int g.w, .int g.sh, .int g.y, .int g.c, .int g.sp, .int g.t], rs]) C dX11_init_16 rfl rfl q1210 (eSame1 rfl) (by decide) rfl rfl rfl rfl rfl rfl (Nat.le_of_ble_eq_true rfl) rfl ?_
  refine z_aload_n C dX11_init_19 rfl rfl ?_
  refine z_aload C dX11_init_20 rfl ?_
  refine z_getN eK5 1 0 C dX11_init_22 rfl rfl q907 (eSame1 rfl) (by decide) rfl ?_
  refine z_putF eK10 0 2 (Γ2 := [eO a 10 [.int tk, .int ln, .int g.w, .int gr, .int 0], eO e 5 [.int g.w, .int g.sh, .int g.y, .int g.c, .int g.sp, .int g.t], rs]) C dX11_init_25 rfl rfl q1208 (eSame1 rfl) (by decide) rfl rfl rfl rfl rfl rfl (Nat.le_of_ble_eq_true rfl) rfl ?_
  refine z_aload_n C dX11_init_28 rfl rfl ?_
  refine z_aload C dX11_init_29 rfl ?_
  refine z_callV (r := (RX5, TX5, 6)) (As := []) (rest := [.ref a]) (Δ := [eO a 10 [.int tk, .int ln, .int g.w, .int gr, .int 0], rs]) [1] [0, 2] 0 (m_isCracked hl E e g) C dX11_init_31 rfl rfl (eIn (i := 1) rfl List.mem_cons_self) rfl rfl q1203 q1141 q1142 q80 q1143 (by decide +kernel) rfl (ePm 3 rfl (by decide +kernel)) rfl rfl ⟨Nat.le_of_ble_eq_true rfl, Nat.le_of_ble_eq_true rfl⟩ (Nat.le_trans (eSm rfl eS0) (Nat.le_of_ble_eq_true rfl)) ⟨Nat.le_of_ble_eq_true rfl, Nat.le_of_ble_eq_true rfl⟩ (fun v_ Γ_ hp_ => ?_)
  obtain ⟨rfl, rfl⟩ := hp_
  show eZ x E _ [eO e 5 [.int g.w, .int g.sh, .int g.y, .int g.c, .int g.sp, .int g.t], eO a 10 [.int tk, .int ln, .int g.w, .int gr, .int 0], rs] 34 [some (.ref a), some (.int tk), some (.int ln), some (.int gr), some (.ref e)] [.int (eB (gCrk g)), .ref a] 0 0
  refine z_putF eK10 1 4 (Γ2 := [eO e 5 [.int g.w, .int g.sh, .int g.y, .int g.c, .int g.sp, .int g.t], eO a 10 [.int tk, .int ln, .int g.w, .int gr, .int (eB (gCrk g))], rs]) C dX11_init_34 rfl rfl q1212 (eSame1 rfl) (by decide) rfl rfl rfl rfl (eB_nar _) (eB_fit _) (Nat.le_of_ble_eq_true rfl) rfl ?_
  refine z_pick (Γ' := [eO a 10 [.int tk, .int ln, .int g.w, .int gr, .int (eB (gCrk g))], eO e 5 [.int g.w, .int g.sh, .int g.y, .int g.c, .int g.sp, .int g.t], rs]) [1, 0, 2] (ePm 3 rfl (by decide +kernel)) rfl ?_
  subst hQ_
  exact z_vret (Γ := [eO a 10 [.int tk, .int ln, .int g.w, .int gr, .int (eB (gCrk g))], eO e 5 [.int g.w, .int g.sh, .int g.y, .int g.c, .int g.sp, .int g.t]]) C dX11_init_37 rfl (Nat.le_of_ble_eq_true rfl) (Nat.le_of_ble_eq_true rfl) ⟨rfl, rfl⟩
