/-! ===== the model: its object, what its array says of a machine ===== -/
set_option maxRecDepth 100000
abbrev Mo : Type := Nat × Nat × Nat × Nat × Int32 × Int32 × Nat × Int32 × Int32 × Int32 × Int32 × Int32 × Int32 × Int32 × Nat
abbrev Mo.sa (g : Mo) : Nat := g.1
abbrev Mo.pa (g : Mo) : Nat := g.2.1
abbrev Mo.ha (g : Mo) : Nat := g.2.2.1
abbrev Mo.xa (g : Mo) : Nat := g.2.2.2.1
abbrev Mo.pn (g : Mo) : Int32 := g.2.2.2.2.1
abbrev Mo.ru (g : Mo) : Int32 := g.2.2.2.2.2.1
abbrev Mo.ta (g : Mo) : Nat := g.2.2.2.2.2.2.1
abbrev Mo.ty (g : Mo) : Int32 := g.2.2.2.2.2.2.2.1
abbrev Mo.sp (g : Mo) : Int32 := g.2.2.2.2.2.2.2.2.1
abbrev Mo.fr (g : Mo) : Int32 := g.2.2.2.2.2.2.2.2.2.1
abbrev Mo.re (g : Mo) : Int32 := g.2.2.2.2.2.2.2.2.2.2.1
abbrev Mo.ca (g : Mo) : Int32 := g.2.2.2.2.2.2.2.2.2.2.2.1
abbrev Mo.os (g : Mo) : Int32 := g.2.2.2.2.2.2.2.2.2.2.2.2.1
abbrev Mo.od (g : Mo) : Int32 := g.2.2.2.2.2.2.2.2.2.2.2.2.2.1
abbrev Mo.na (g : Mo) : Nat := g.2.2.2.2.2.2.2.2.2.2.2.2.2.2

abbrev eMO (a : Nat) (o : Mo) : va_W := eO a 4 [.ref o.sa, .ref o.pa, .ref o.ha, .ref o.xa, .int o.pn, .int o.ru, .ref o.ta, .int o.ty, .int o.sp, .int o.fr, .int o.re, .int o.ca, .int o.os, .int o.od, .ref o.na]
def gLF (v : Lv) (j : Nat) : Int32 := match j with | 1 => v.li | 2 => v.tu | 3 => v.st | 4 => v.gd | _ => v.ck
def gEF (g : Eg) (j : Nat) : Int32 := match j with | 0 => g.w | 1 => g.sh | 2 => g.sp | 3 => g.y | 4 => g.c + 1 | _ => g.t
def gCF (c : Cr) (j : Nat) : Int32 := match j with | 0 => c.eggs | 1 => c.sold | 2 => c.returned | 3 => c.cracked | _ => c.all
def gNF (e : Enr) (j : Nat) : Int32 := match j with | 0 => e.tick | 1 => e.lane | 2 => e.w | 3 => e.grade | _ => eB e.cr
def gTF (A : Am) (j : Nat) : Int32 := match j with | 0 => A.u.tk | 1 => A.u.cm | 2 => gOfC A 3 | 3 => A.u.dk | 4 => gCks A | 5 => A.u.co | 6 => gOfC A 7 | 7 => gOfC A 8 | 8 => A.u.lk | 9 => nI A.bs.length | _ => A.u.wt
def rL1 (f : Nat → Int32) (l : Nat) (v : Lv) (gs : List Eg) : Prop := f (192 + 6 * l) = nI gs.length ∧ (∀ j, 1 ≤ j → j < 6 → f (192 + 6 * l + j) = gLF v j) ∧ ∀ p g, gs[p]? = some g → ∀ j, j < 6 → f (48 * l + 6 * p + j) = gEF g j
def rL (f : Nat → Int32) (ls : List (Lv × List Eg)) : Prop := ∀ (l : Nat) (x : Lv × List Eg), ls[l]? = some x → rL1 f l x.1 x.2
def rC (f : Nat → Int32) (cs : List Cr) : Prop := ∀ (k : Nat) (c : Cr), cs[k]? = some c → ∀ j, j < 5 → f (216 + 5 * k + j) = gCF c j
def rB (f : Nat → Int32) (bs : List Enr) : Prop := ∀ (k : Nat) (e : Enr), bs[k]? = some e → ∀ j, j < 5 → f (246 + 5 * k + j) = gNF e j
def rT (f : Nat → Int32) (A : Am) : Prop := ∀ j, j < 11 → f (296 + j) = gTF A j
def rS (f st : Nat → Int32) : Prop := ∀ j, j < 4 → f (307 + j) = st j
def Rep (f : Nat → Int32) (A : Am) : Prop := rL f A.ls ∧ rC f A.cs ∧ rB f A.bs ∧ rT f A ∧ rS f A.st
theorem nI_mul_ (a b : Nat) : nI a * nI b = nI (a * b) := (Int32.ofNat_mul a b).symm
theorem upd_ne_ {f : Nat → Int32} {i k : Nat} {v : Int32} (h : k ≠ i) : upd f i v k = f k := by simp [upd, h]
theorem rL1_fr {f f2 : Nat → Int32} {l : Nat} {v : Lv} {gs : List Eg} (h8 : gs.length ≤ 8) (h : ∀ k, (48 * l ≤ k ∧ k < 48 * l + 48) ∨ (192 + 6 * l ≤ k ∧ k < 198 + 6 * l) → f2 k = f k) (R : rL1 f l v gs) : rL1 f2 l v gs := by
  refine ⟨by rw [h _ (Or.inr (by omega))]; exact R.1, fun j h1 h2 => by rw [h _ (Or.inr (by omega))]; exact R.2.1 j h1 h2, fun p g hg j hj => ?_⟩
  have hp : p < gs.length := (List.getElem?_eq_some_iff.mp hg).1
  rw [h _ (Or.inl (by omega))]; exact R.2.2 p g hg j hj
theorem rC_fr {f f2 : Nat → Int32} {cs : List Cr} (h6 : cs.length ≤ 6) (h : ∀ k, 216 ≤ k → k < 246 → f2 k = f k) (R : rC f cs) : rC f2 cs := by
  intro k c hc j hj
  have hp : k < cs.length := (List.getElem?_eq_some_iff.mp hc).1
  rw [h _ (by omega) (by omega)]; exact R k c hc j hj
theorem rB_fr {f f2 : Nat → Int32} {bs : List Enr} (h6 : bs.length ≤ 10) (h : ∀ k, 246 ≤ k → k < 296 → f2 k = f k) (R : rB f bs) : rB f2 bs := by
  intro k c hc j hj
  have hp : k < bs.length := (List.getElem?_eq_some_iff.mp hc).1
  rw [h _ (by omega) (by omega)]; exact R k c hc j hj
theorem rS_fr {f f2 st : Nat → Int32} (h : ∀ k, 307 ≤ k → k < 311 → f2 k = f k) (R : rS f st) : rS f2 st := by
  intro j hj
  rw [h _ (by omega) (by omega)]; exact R j hj
/-- lane l alone changes -/
theorem rL_set {f f2 : Nat → Int32} {ls : List (Lv × List Eg)} {l : Nat} {v : Lv} {gs : List Eg} (hl4 : l < 4) (h4 : ls.length ≤ 4) (h8 : ∀ x ∈ ls, x.2.length ≤ 8) (h : ∀ k, k < 216 → ¬ ((48 * l ≤ k ∧ k < 48 * l + 48) ∨ (192 + 6 * l ≤ k ∧ k < 198 + 6 * l)) → f2 k = f k) (R : rL f ls) (R1 : rL1 f2 l v gs) : rL f2 (ls.set l (v, gs)) := by
  intro m x hx
  by_cases hm : l = m
  · subst hm
    have hlt : l < (ls.set l (v, gs)).length := (List.getElem?_eq_some_iff.mp hx).1
    rw [List.length_set] at hlt
    rw [List.getElem?_set_self hlt] at hx
    cases hx
    exact R1
  · rw [List.getElem?_set_ne hm] at hx
    have hlt : m < ls.length := (List.getElem?_eq_some_iff.mp hx).1
    refine rL1_fr (h8 x (List.mem_of_getElem? hx)) (fun k hk => h k (by omega) (by omega)) (R m x hx)
/-! the ranges -/
def gWfL (v : Lv) : Prop := eBt v.li 0 99 = true ∧ eBt v.tu 1 7 = true ∧ eBt v.st 0 9 = true
def gWfC (c : Cr) : Prop := eBt c.eggs 0 5 = true ∧ eBt c.cracked 0 c.eggs = true
def gWfS (st : Nat → Int32) : Prop := eBt (st 0) 1 8 = true ∧ eBt (st 1) 1 9 = true ∧ eBt (st 2) 0 9 = true ∧ eBt (st 3) 0 8 = true
def gWf (A : Am) : Prop := (∀ x ∈ A.ls, gWfL x.1 ∧ ∀ g ∈ x.2, gEgOk g = true) ∧ (∀ c ∈ A.cs, gWfC c) ∧ gWfS A.st ∧ True
theorem gEgOk_ {g : Eg} (h : gEgOk g = true) : eBt g.w 30 90 = true ∧ eBt g.sh 0 99 = true ∧ eBt g.sp 0 255 = true ∧ eBt g.y 1 2 = true ∧ eBt g.c (-1) 7 = true := by
  unfold gEgOk at h
  simp only [Bool.and_eq_true] at h
  exact ⟨h.1, h.2.1, h.2.2.1, h.2.2.2.1, h.2.2.2.2⟩
theorem eBt_ex {v : Int32} {hi : Nat} (hh : hi < 1000000) (h : eBt v 0 (nI hi) = true) : ∃ n, n ≤ hi ∧ v = nI n := by
  obtain ⟨N, hN, rfl⟩ := eBt_N h
  exact ⟨N, by rw [nN_nI hh] at hN; exact hN, rfl⟩
theorem eBt_mono {v lo lo2 hi hi2 : Int32} (h : eBt v lo hi = true) (h1 : lo2 ≤ lo) (h2 : hi ≤ hi2) : eBt v lo2 hi2 = true := by
  have h9 := of_decide_eq_true h
  exact decide_eq_true ⟨Int32.le_trans h1 h9.1, Int32.le_trans h9.2 h2⟩

set_option maxHeartbeats 4000000 in
theorem m_MlaneAt {l : Launch} (hl : l.stackTraces = false) (E : eEn) (N : Nat) : eMet l E yX4_laneAt (ws_ yX4_laneAt cX4_laneAt 1 (some .int)) ({ frames := 0, cells := 0, slots := 0, locals := 0 }) [.int (nI N)] [] (fun w Γ => w = some (.int (nI (192 + 6 * N))) ∧ Γ = []) := by
  refine eStart (cc := cX4_laneAt) (nL := 1) (L := [some (.int (nI N))]) hl (by decide) rfl (List.forall_mem_cons.mpr ⟨rfl, (fun _ h => absurd h List.not_mem_nil)⟩) (Nat.le_of_ble_eq_true rfl) ?_
  intro x rs C
  show eZ x E (eQ x E (fun w Γ => w = some (.int (nI (192 + 6 * N))) ∧ Γ = []) rs) [rs] 0 [some (.int (nI N))] [] 0 0
  generalize hQ_ : eQ x E (fun w Γ => w = some (.int (nI (192 + 6 * N))) ∧ Γ = []) rs = Q_
  refine z_sipush (v := 192) C dX4_laneAt_0 (by decide) ?_
  refine z_bipush (v := 6) C dX4_laneAt_3 (by decide) ?_
  refine z_iload_n C dX4_laneAt_5 rfl rfl ?_
  refine z_imul (w := nI (6 * N)) C dX4_laneAt_6 (nI_mul_ 6 N) ?_
  refine z_iadd (w := nI (192 + (6 * N))) C dX4_laneAt_7 (nI_add 192 (6 * N)) ?_
  subst hQ_
  exact z_ret (Γ := []) C dX4_laneAt_8 rfl rfl (Nat.le_of_ble_eq_true rfl) (Nat.le_of_ble_eq_true rfl) ⟨rfl, rfl⟩

set_option maxHeartbeats 4000000 in
theorem m_MeggAt {l : Launch} (hl : l.stackTraces = false) (E : eEn) (N p : Nat) : eMet l E yX4_eggAt (ws_ yX4_eggAt cX4_eggAt 2 (some .int)) ({ frames := 0, cells := 0, slots := 0, locals := 0 }) [.int (nI N), .int (nI p)] [] (fun w Γ => w = some (.int (nI (48 * N + 6 * p))) ∧ Γ = []) := by
  refine eStart (cc := cX4_eggAt) (nL := 2) (L := [some (.int (nI N)), some (.int (nI p))]) hl (by decide) rfl (List.forall_mem_cons.mpr ⟨rfl, (List.forall_mem_cons.mpr ⟨rfl, (fun _ h => absurd h List.not_mem_nil)⟩)⟩) (Nat.le_of_ble_eq_true rfl) ?_
  intro x rs C
  show eZ x E (eQ x E (fun w Γ => w = some (.int (nI (48 * N + 6 * p))) ∧ Γ = []) rs) [rs] 0 [some (.int (nI N)), some (.int (nI p))] [] 0 0
  generalize hQ_ : eQ x E (fun w Γ => w = some (.int (nI (48 * N + 6 * p))) ∧ Γ = []) rs = Q_
  refine z_bipush (v := 48) C dX4_eggAt_0 (by decide) ?_
  refine z_iload_n C dX4_eggAt_2 rfl rfl ?_
  refine z_imul (w := nI (48 * N)) C dX4_eggAt_3 (nI_mul_ 48 N) ?_
  refine z_bipush (v := 6) C dX4_eggAt_4 (by decide) ?_
  refine z_iload_n C dX4_eggAt_6 rfl rfl ?_
  refine z_imul (w := nI (6 * p)) C dX4_eggAt_7 (nI_mul_ 6 p) ?_
  refine z_iadd (w := nI (48 * N + (6 * p))) C dX4_eggAt_8 (nI_add (48 * N) (6 * p)) ?_
  subst hQ_
  exact z_ret (Γ := []) C dX4_eggAt_9 rfl rfl (Nat.le_of_ble_eq_true rfl) (Nat.le_of_ble_eq_true rfl) ⟨rfl, rfl⟩

set_option maxHeartbeats 4000000 in
theorem m_McrateAt {l : Launch} (hl : l.stackTraces = false) (E : eEn) (N : Nat) : eMet l E yX4_crateAt (ws_ yX4_crateAt cX4_crateAt 1 (some .int)) ({ frames := 0, cells := 0, slots := 0, locals := 0 }) [.int (nI N)] [] (fun w Γ => w = some (.int (nI (216 + 5 * N))) ∧ Γ = []) := by
  refine eStart (cc := cX4_crateAt) (nL := 1) (L := [some (.int (nI N))]) hl (by decide) rfl (List.forall_mem_cons.mpr ⟨rfl, (fun _ h => absurd h List.not_mem_nil)⟩) (Nat.le_of_ble_eq_true rfl) ?_
  intro x rs C
  show eZ x E (eQ x E (fun w Γ => w = some (.int (nI (216 + 5 * N))) ∧ Γ = []) rs) [rs] 0 [some (.int (nI N))] [] 0 0
  generalize hQ_ : eQ x E (fun w Γ => w = some (.int (nI (216 + 5 * N))) ∧ Γ = []) rs = Q_
  refine z_sipush (v := 216) C dX4_crateAt_0 (by decide) ?_
  refine z_iconst (v := 5) C dX4_crateAt_3 (by decide) ?_
  refine z_iload_n C dX4_crateAt_4 rfl rfl ?_
  refine z_imul (w := nI (5 * N)) C dX4_crateAt_5 (nI_mul_ 5 N) ?_
  refine z_iadd (w := nI (216 + (5 * N))) C dX4_crateAt_6 (nI_add 216 (5 * N)) ?_
  subst hQ_
  exact z_ret (Γ := []) C dX4_crateAt_7 rfl rfl (Nat.le_of_ble_eq_true rfl) (Nat.le_of_ble_eq_true rfl) ⟨rfl, rfl⟩

set_option maxHeartbeats 4000000 in
theorem m_Min {l : Launch} (hl : l.stackTraces = false) (E : eEn) (v lo hi : Int32) : eMet l E yX4_in (ws_ yX4_in cX4_in 3 (some .boolean)) ({ frames := 0, cells := 0, slots := 0, locals := 0 }) [.int v, .int lo, .int hi] [] (fun w Γ => w = some (.int (eB (eBt v lo hi))) ∧ Γ = []) := by
  refine eStart (cc := cX4_in) (nL := 3) (L := [some (.int v), some (.int lo), some (.int hi)]) hl (by decide) rfl (List.forall_mem_cons.mpr ⟨rfl, (List.forall_mem_cons.mpr ⟨rfl, (List.forall_mem_cons.mpr ⟨rfl, (fun _ h => absurd h List.not_mem_nil)⟩)⟩)⟩) (Nat.le_of_ble_eq_true rfl) ?_
  intro x rs C
  show eZ x E (eQ x E (fun w Γ => w = some (.int (eB (eBt v lo hi))) ∧ Γ = []) rs) [rs] 0 [some (.int v), some (.int lo), some (.int hi)] [] 0 0
  generalize hQ_ : eQ x E (fun w Γ => w = some (.int (eB (eBt v lo hi))) ∧ Γ = []) rs = Q_
  refine z_iload_n C dX4_in_0 rfl rfl ?_
  refine z_iload_n C dX4_in_1 rfl rfl ?_
  refine z_icmp_lt 14 C dX4_in_2 (by decide) (fun h1 => ?_) (fun h1 => ?_)
  · refine z_iconst (v := 0) C dX4_in_14 (by decide) ?_
    refine z_is (w := eB (eBt v lo hi)) (by rw [show eBt v lo hi = false from decide_eq_false (fun h => absurd h.1 (Int32.not_le.mpr h1))]; rfl) ?_
    subst hQ_
    exact z_ret (Γ := []) C dX4_in_15 rfl (eB_nar _) (Nat.le_of_ble_eq_true rfl) (Nat.le_of_ble_eq_true rfl) ⟨rfl, rfl⟩
  · refine z_iload_n C dX4_in_5 rfl rfl ?_
    refine z_iload_n C dX4_in_6 rfl rfl ?_
    refine z_icmp_gt 14 C dX4_in_7 (by decide) (fun h2 => ?_) (fun h2 => ?_)
    · refine z_iconst (v := 0) C dX4_in_14 (by decide) ?_
      refine z_is (w := eB (eBt v lo hi)) (by rw [show eBt v lo hi = false from decide_eq_false (fun h => absurd h.2 (Int32.not_le.mpr h2))]; rfl) ?_
      subst hQ_
      exact z_ret (Γ := []) C dX4_in_15 rfl (eB_nar _) (Nat.le_of_ble_eq_true rfl) (Nat.le_of_ble_eq_true rfl) ⟨rfl, rfl⟩
    · refine z_iconst (v := 1) C dX4_in_10 (by decide) ?_
      refine z_goto 15 C dX4_in_11 (by decide) ?_
      refine z_is (w := eB (eBt v lo hi)) (by rw [show eBt v lo hi = true from decide_eq_true ⟨Int32.not_lt.mp h1, Int32.not_lt.mp h2⟩]; rfl) ?_
      subst hQ_
      exact z_ret (Γ := []) C dX4_in_15 rfl (eB_nar _) (Nat.le_of_ble_eq_true rfl) (Nat.le_of_ble_eq_true rfl) ⟨rfl, rfl⟩

set_option maxHeartbeats 4000000 in
theorem m_MisLane {l : Launch} (hl : l.stackTraces = false) (E : eEn) (v : Int32) : eMet l E yX4_isLane (ws_ yX4_isLane cX4_isLane 1 (some .boolean)) ({ frames := 1, cells := 0, slots := 0, locals := 22 }) [.int v] [] (fun w Γ => w = some (.int (eB (eBt v 0 3))) ∧ Γ = []) := by
  refine eStart (cc := cX4_isLane) (nL := 1) (L := [some (.int v)]) hl (by decide) rfl (List.forall_mem_cons.mpr ⟨rfl, (fun _ h => absurd h List.not_mem_nil)⟩) (Nat.le_of_ble_eq_true rfl) ?_
  intro x rs C
  show eZ x E (eQ x E (fun w Γ => w = some (.int (eB (eBt v 0 3))) ∧ Γ = []) rs) [rs] 0 [some (.int v)] [] 0 0
  generalize hQ_ : eQ x E (fun w Γ => w = some (.int (eB (eBt v 0 3))) ∧ Γ = []) rs = Q_
  refine z_iload_n C dX4_isLane_0 rfl rfl ?_
  refine z_iconst (v := 0) C dX4_isLane_1 (by decide) ?_
  refine z_iconst (v := 3) C dX4_isLane_2 (by decide) ?_
  refine z_callS (As := [.int v, .int 0, .int 3]) (rest := []) (Δ := [rs]) [] [0] 3 (m_Min hl E v 0 3) C dX4_isLane_3 rfl rfl rfl q1724 q1725 q67 q1726 (by decide +kernel) rfl (ePm 1 rfl (by decide +kernel)) rfl rfl ⟨Nat.le_of_ble_eq_true rfl, Nat.le_of_ble_eq_true rfl⟩ (Nat.le_trans eS0 (Nat.le_of_ble_eq_true rfl)) ⟨Nat.le_of_ble_eq_true rfl, Nat.le_of_ble_eq_true rfl⟩ (fun v_ Γ_ hp_ => ?_)
  obtain ⟨rfl, rfl⟩ := hp_
  show eZ x E _ [rs] 6 [some (.int v)] [.int (eB (eBt v 0 3))] 0 0
  subst hQ_
  exact z_ret (Γ := []) C dX4_isLane_6 rfl (eB_nar _) (Nat.le_of_ble_eq_true rfl) (Nat.le_of_ble_eq_true rfl) ⟨rfl, rfl⟩

set_option maxHeartbeats 4000000 in
theorem m_Mmany {l : Launch} (hl : l.stackTraces = false) (E : eEn) (a : Nat) (o : Mo) (f : Nat → Int32) (N : Nat) (hN4 : N < 4) (v : Lv) (gs : List Eg) (R : rL1 f N v gs) : eMet l E yX4_many (ws_ yX4_many cX4_many 2 (some .int)) ({ frames := 1, cells := 0, slots := 0, locals := 20 }) [.ref a, .int (nI N)] [eO a 4 [.ref o.sa, .ref o.pa, .ref o.ha, .ref o.xa, .int o.pn, .int o.ru, .ref o.ta, .int o.ty, .int o.sp, .int o.fr, .int o.re, .int o.ca, .int o.os, .int o.od, .ref o.na], eIA E o.sa 311 f] (fun w Γ => w = some (.int (nI gs.length)) ∧ Γ = [eMO a o, eIA E o.sa 311 f]) := by
  refine eStart (cc := cX4_many) (nL := 2) (L := [some (.ref a), some (.int (nI N))]) hl (by decide) rfl (List.forall_mem_cons.mpr ⟨rfl, (List.forall_mem_cons.mpr ⟨rfl, (fun _ h => absurd h List.not_mem_nil)⟩)⟩) (Nat.le_of_ble_eq_true rfl) ?_
  intro x rs C
  show eZ x E (eQ x E (fun w Γ => w = some (.int (nI gs.length)) ∧ Γ = [eMO a o, eIA E o.sa 311 f]) rs) [eO a 4 [.ref o.sa, .ref o.pa, .ref o.ha, .ref o.xa, .int o.pn, .int o.ru, .ref o.ta, .int o.ty, .int o.sp, .int o.fr, .int o.re, .int o.ca, .int o.os, .int o.od, .ref o.na], eIA E o.sa 311 f, rs] 0 [some (.ref a), some (.int (nI N))] [] 0 0
  generalize hQ_ : eQ x E (fun w Γ => w = some (.int (nI gs.length)) ∧ Γ = [eMO a o, eIA E o.sa 311 f]) rs = Q_
  refine z_aload_n C dX4_many_0 rfl rfl ?_
  refine z_get eK4 0 0 C dX4_many_1 rfl rfl q1671 (eSame1 rfl) (by decide) rfl ?_
  refine z_iload_n C dX4_many_4 rfl rfl ?_
  refine z_callS (As := [.int (nI N)]) (rest := [.ref o.sa]) (Δ := [eO a 4 [.ref o.sa, .ref o.pa, .ref o.ha, .ref o.xa, .int o.pn, .int o.ru, .ref o.ta, .int o.ty, .int o.sp, .int o.fr, .int o.re, .int o.ca, .int o.os, .int o.od, .ref o.na], eIA E o.sa 311 f, rs]) [] [0, 1, 2] 1 (m_MlaneAt hl E N) C dX4_many_5 rfl rfl rfl q1668 q1669 q67 q1670 (by decide +kernel) rfl (ePm 3 rfl (by decide +kernel)) rfl rfl ⟨Nat.le_of_ble_eq_true rfl, Nat.le_of_ble_eq_true rfl⟩ (Nat.le_trans (eSm rfl eS0) (Nat.le_of_ble_eq_true rfl)) ⟨Nat.le_of_ble_eq_true rfl, Nat.le_of_ble_eq_true rfl⟩ (fun v_ Γ_ hp_ => ?_)
  obtain ⟨rfl, rfl⟩ := hp_
  show eZ x E _ [eO a 4 [.ref o.sa, .ref o.pa, .ref o.ha, .ref o.xa, .int o.pn, .int o.ru, .ref o.ta, .int o.ty, .int o.sp, .int o.fr, .int o.re, .int o.ca, .int o.os, .int o.od, .ref o.na], eIA E o.sa 311 f, rs] 8 [some (.ref a), some (.int (nI N))] [.int (nI (192 + 6 * N)), .ref o.sa] 0 0
  refine z_iconst (v := 0) C dX4_many_8 (by decide) ?_
  refine z_iadd (w := nI (192 + 6 * N)) C dX4_many_9 (nI_add (192 + 6 * N) 0) ?_
  refine z_iald (m := (192 + 6 * N)) (v := nI gs.length) 1 C dX4_many_10 rfl rfl (by omega) (by decide) R.1 ?_
  subst hQ_
  exact z_ret (Γ := [eO a 4 [.ref o.sa, .ref o.pa, .ref o.ha, .ref o.xa, .int o.pn, .int o.ru, .ref o.ta, .int o.ty, .int o.sp, .int o.fr, .int o.re, .int o.ca, .int o.os, .int o.od, .ref o.na], eIA E o.sa 311 f]) C dX4_many_11 rfl rfl (Nat.le_of_ble_eq_true rfl) (Nat.le_of_ble_eq_true rfl) ⟨rfl, rfl⟩

def gMPr (g : Int32) : Int32 := if g = 5 then 5 else if g = 4 then 1 else g + 1

set_option maxHeartbeats 4000000 in
theorem m_MpriceOf {l : Launch} (hl : l.stackTraces = false) (E : eEn) (g : Int32) : eMet l E yX4_priceOf (ws_ yX4_priceOf cX4_priceOf 1 (some .int)) ({ frames := 0, cells := 0, slots := 0, locals := 0 }) [.int g] [] (fun w Γ => w = some (.int (gMPr g)) ∧ Γ = []) := by
  refine eStart (cc := cX4_priceOf) (nL := 1) (L := [some (.int g)]) hl (by decide) rfl (List.forall_mem_cons.mpr ⟨rfl, (fun _ h => absurd h List.not_mem_nil)⟩) (Nat.le_of_ble_eq_true rfl) ?_
  intro x rs C
  show eZ x E (eQ x E (fun w Γ => w = some (.int (gMPr g)) ∧ Γ = []) rs) [rs] 0 [some (.int g)] [] 0 0
  generalize hQ_ : eQ x E (fun w Γ => w = some (.int (gMPr g)) ∧ Γ = []) rs = Q_
  refine z_iload_n C dX4_priceOf_0 rfl rfl ?_
  refine z_iconst (v := 5) C dX4_priceOf_1 (by decide) ?_
  refine z_icmp_ne 9 C dX4_priceOf_2 (by decide) (fun h1 => ?_) (fun h1 => ?_)
  · refine z_iload_n C dX4_priceOf_9 rfl rfl ?_
    refine z_iconst (v := 4) C dX4_priceOf_10 (by decide) ?_
    refine z_icmp_ne 18 C dX4_priceOf_11 (by decide) (fun h2 => ?_) (fun h2 => ?_)
    · refine z_iload_n C dX4_priceOf_18 rfl rfl ?_
      refine z_iconst (v := 1) C dX4_priceOf_19 (by decide) ?_
      refine z_iadd (w := g + 1) C dX4_priceOf_20 rfl ?_
      subst hQ_
      exact z_ret (Γ := []) C dX4_priceOf_21 rfl rfl (Nat.le_of_ble_eq_true rfl) (Nat.le_of_ble_eq_true rfl) ⟨by rw [gMPr, if_neg h1, if_neg h2], rfl⟩
    · refine z_iconst (v := 1) C dX4_priceOf_14 (by decide) ?_
      refine z_goto 21 C dX4_priceOf_15 (by decide) ?_
      subst hQ_
      exact z_ret (Γ := []) C dX4_priceOf_21 rfl rfl (Nat.le_of_ble_eq_true rfl) (Nat.le_of_ble_eq_true rfl) ⟨by rw [gMPr, if_neg h1, if_pos h2], rfl⟩
  · refine z_iconst (v := 5) C dX4_priceOf_5 (by decide) ?_
    refine z_goto 21 C dX4_priceOf_6 (by decide) ?_
    subst hQ_
    exact z_ret (Γ := []) C dX4_priceOf_21 rfl rfl (Nat.le_of_ble_eq_true rfl) (Nat.le_of_ble_eq_true rfl) ⟨by rw [gMPr, if_pos h1], rfl⟩
