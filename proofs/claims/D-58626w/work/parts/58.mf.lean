/-! ===== the model: grading, ticks ===== -/
set_option maxRecDepth 100000
theorem set_same_ {α : Type} {xs : List α} {k : Nat} {x : α} (h : xs[k]? = some x) : xs.set k x = xs := by
  apply List.ext_getElem?
  intro i
  by_cases hi : k = i
  · subst hi; rw [List.getElem?_set_self (List.getElem?_eq_some_iff.mp h).1, h]
  · rw [List.getElem?_set_ne hi]
theorem set_get_ {α : Type} {xs : List α} {k : Nat} {x y : α} (h : xs[k]? = some x) : (xs.set k y)[k]? = some y := List.getElem?_set_self (List.getElem?_eq_some_iff.mp h).1
theorem rP_cc {f0 f : Nat → Int32} {N : Nat} {v : Lv} {gs : List Eg} {cs : List Cr} {bs : List Enr} {tt st : Nat → Int32} {k : Nat} {c0 : Cr} (c c2 : Cr) (hc : cs[k]? = some c0) (j : Nat) (x : Int32) (hj : j < 5) (hv : ∀ i, i < 5 → gCF c2 i = if i = j then x else gCF c i) (hz : rZ N gs cs bs) (h : rP f0 f N v gs (cs.set k c) bs tt st) : rP f0 (upd f (216 + 5 * k + j) x) N v gs (cs.set k c2) bs tt st := by
  have h9 := rP_c k c c2 (set_get_ hc) j x hj hv ⟨hz.1, hz.2.1, by rw [List.length_set]; exact hz.2.2.1, hz.2.2.2⟩ h
  rw [List.set_set] at h9
  exact h9
theorem rP_tc {f0 f : Nat → Int32} {N : Nat} {v : Lv} {gs : List Eg} {cs : List Cr} {bs : List Enr} {tt st : Nat → Int32} {k : Nat} {c : Cr} (j : Nat) (x : Int32) (hj : j < 11) (hz : rZ N gs cs bs) (h : rP f0 f N v gs (cs.set k c) bs tt st) : rP f0 (upd f (296 + j) x) N v gs (cs.set k c) bs (upd tt j x) st :=
  rP_t j x hj ⟨hz.1, hz.2.1, by rw [List.length_set]; exact hz.2.2.1, hz.2.2.2⟩ h
theorem rP_nn {f0 f : Nat → Int32} {N : Nat} {v : Lv} {gs : List Eg} {cs : List Cr} {bs : List Enr} {tt st : Nat → Int32} (hz : rZ N gs cs bs) (h : rP f0 f N v gs cs bs tt st) : rP f0 (upd f (192 + 6 * N) (nI gs.length)) N v gs cs bs tt st := rP_fr h hz (fun k _ => by
  by_cases hk : k = 192 + 6 * N
  · subst hk; rw [upd_self_]; exact h.1.1.symm
  · exact upd_ne_ hk)
theorem i32_as (a b : Int32) : a + (b - a) = b := by rw [Int32.add_comm, Int32.sub_add_cancel]
theorem fold_acc {α : Type} (F : α → Int32) (xs : List α) : ∀ a d : Int32, xs.foldl (fun s k => s + F k) (a + d) = xs.foldl (fun s k => s + F k) a + d := by
  induction xs with
  | nil => intro a d; rfl
  | cons x xs ih =>
    intro a d
    rw [List.foldl_cons, List.foldl_cons, ← ih, Int32.add_assoc, Int32.add_comm d, ← Int32.add_assoc]
theorem fold_set {α : Type} (F : α → Int32) (xs : List α) : ∀ (k : Nat) (x y : α) (a : Int32), xs[k]? = some x → (xs.set k y).foldl (fun s k => s + F k) a = xs.foldl (fun s k => s + F k) a + (F y - F x) := by
  induction xs with
  | nil => intro k x y a h; cases h
  | cons z xs ih =>
    intro k x y a h
    cases k with
    | zero =>
      cases h
      rw [List.set_cons_zero, List.foldl_cons, List.foldl_cons, ← fold_acc, Int32.add_assoc, i32_as]
    | succ k => rw [List.set_cons_succ, List.foldl_cons, List.foldl_cons]; exact ih k x y _ h
theorem gOfC_set {A : Am} {k : Nat} {c c2 : Cr} (w : Int32) (h : A.cs[k]? = some c) {ls : List (Lv × List Eg)} {bs : List Enr} {st : Nat → Int32} {u : Mv} : gOfC (ls, A.cs.set k c2, bs, st, u) w = gOfC A w + (gOf w c2 - gOf w c) := fold_set (gOf w) A.cs k c c2 0 h
theorem gCks_set {A : Am} {k : Nat} {x y : Lv × List Eg} (h : A.ls[k]? = some x) {cs : List Cr} {bs : List Enr} {st : Nat → Int32} {u : Mv} : gCks (A.ls.set k y, cs, bs, st, u) = gCks A + (y.1.ck - x.1.ck) := fold_set (fun l : Lv × List Eg => l.1.ck) A.ls k x y 0 h
theorem gMPr_eq : ∀ k, k < 6 → gMPr (nI k) = gPrice (nI k) := by decide +kernel
theorem gWfC_c {c : Cr} (h : gWfC c) (b : Bool) : 0 ≤ c.cracked + eB b ∧ (6 ≤ c.eggs + 1 → c.eggs + 1 = 6) := by
  obtain ⟨n, hn, he⟩ := eBt_ex (hi := 5) (by decide) h.1
  obtain ⟨m, hm, he2⟩ := eBt_ex (hi := n) (by omega) (by rw [← he]; exact h.2)
  rw [he, he2]
  refine ⟨?_, fun h => ?_⟩
  · cases b
    · rw [show nI m + eB false = nI m from Int32.add_zero _]; exact nI_pos' (by omega)
    · rw [show nI m + eB true = nI (m + 1) from nI_1 m]; exact nI_pos' (by omega)
  · rw [nI_1] at h ⊢
    have := (nI_leI (a := 6) (b := n + 1) (by decide) (by omega)).mp h
    rw [show n + 1 = 6 by omega]; rfl
theorem gStL_st {v : Lv} (h : gWfL v) : v.st - (if 0 < v.st then 1 else 0) = (gStL v).st := by
  obtain ⟨n, hn, he⟩ := eBt_ex (hi := 9) (by decide) h.2.2
  show _ = eMax 0 (v.st - 1)
  rw [he]
  have h9 : ∀ n, n < 10 → nI n - (if 0 < nI n then 1 else 0) = eMax 0 (nI n - 1) := by decide +kernel
  exact h9 n (by omega)
theorem gBar_3 (st : Nat → Int32) (v : Lv) (g : Eg) : gBar st v g = 0 ∨ gBar st v g = 2 ∨ gBar st v g = 3 := by
  unfold gBar
  split
  · exact Or.inr (Or.inl rfl)
  · split
    · exact Or.inr (Or.inr rfl)
    · exact Or.inl rfl
theorem gC_at {cs : List Cr} {K : Nat} {c : Cr} (hK : K < 6) (h : cs[K]? = some c) : gC cs (nI K) = c := by
  unfold gC
  rw [nN_nI (by omega), List.getD, h]; rfl
/-- lane N after its step -/
def gLnA (A : Am) (N : Nat) (s : Gs) : Am := (A.ls.set N (s.2.1, s.2.2.1), s.2.2.2.1, s.2.2.2.2.1, A.st, s.2.2.2.2.2)
theorem j11 {j : Nat} (h : j < 11) : j = 0 ∨ j = 1 ∨ j = 2 ∨ j = 3 ∨ j = 4 ∨ j = 5 ∨ j = 6 ∨ j = 7 ∨ j = 8 ∨ j = 9 ∨ j = 10 := by omega

theorem tn_t {D : Bool} (h : (!D) = true) : D = false := by cases D; rfl; cases h
theorem tn_f {D : Bool} (h : (!D) = false) : D = true := by cases D; cases h; rfl

set_option maxHeartbeats 4000000 in
theorem m_Mfills {l : Launch} (hl : l.stackTraces = false) (E : eEn) (a : Nat) (o : Mo) (f0 f : Nat → Int32) (N : Nat) (v : Lv) (gs : List Eg) (cs : List Cr) (bs : List Enr) (tt st : Nat → Int32) (hz : rZ N gs cs bs) (R : rP f0 f N v gs cs bs tt st) (k : Nat) (hk6 : k < 6) (c : Cr) (hc : cs[k]? = some c) (hwc : gWfC c) (b : Bool) : eMet l E yX4_fills (ws_ yX4_fills cX4_fills 5 none) ({ frames := 1, cells := 0, slots := 0, locals := 20 }) [.ref a, .int (nI k), .int (eB b)] [eO a 4 [.ref o.sa, .ref o.pa, .ref o.ha, .ref o.xa, .int o.pn, .int o.ru, .ref o.ta, .int o.ty, .int o.sp, .int o.fr, .int o.re, .int o.ca, .int o.os, .int o.od, .ref o.na], eIA E o.sa 311 f] (fun w Γ => w = none ∧ ∃ f2 tt2, Γ = [eMO a o, eIA E o.sa 311 f2] ∧ rP f0 f2 N v gs (cs.set k (gCr2 (gCr1 b c))) bs tt2 st ∧ tt2 5 = gCo (nI k) (gCr1 b c) (tt 5) ∧ tt2 6 = tt 6 + ((gCr2 (gCr1 b c)).sold - c.sold) ∧ tt2 7 = tt 7 + ((gCr2 (gCr1 b c)).returned - c.returned) ∧ ∀ j, j ≠ 5 → j ≠ 6 → j ≠ 7 → tt2 j = tt j) := by
  refine eStart (cc := cX4_fills) (nL := 5) (L := [some (.ref a), some (.int (nI k)), some (.int (eB b)), none, none]) hl (by decide) rfl (List.forall_mem_cons.mpr ⟨rfl, (List.forall_mem_cons.mpr ⟨rfl, (List.forall_mem_cons.mpr ⟨rfl, (fun _ h => absurd h List.not_mem_nil)⟩)⟩)⟩) (Nat.le_of_ble_eq_true rfl) ?_
  intro x rs C
  show eZ x E (eQ x E (fun w Γ => w = none ∧ ∃ f2 tt2, Γ = [eMO a o, eIA E o.sa 311 f2] ∧ rP f0 f2 N v gs (cs.set k (gCr2 (gCr1 b c))) bs tt2 st ∧ tt2 5 = gCo (nI k) (gCr1 b c) (tt 5) ∧ tt2 6 = tt 6 + ((gCr2 (gCr1 b c)).sold - c.sold) ∧ tt2 7 = tt 7 + ((gCr2 (gCr1 b c)).returned - c.returned) ∧ ∀ j, j ≠ 5 → j ≠ 6 → j ≠ 7 → tt2 j = tt j) rs) [eO a 4 [.ref o.sa, .ref o.pa, .ref o.ha, .ref o.xa, .int o.pn, .int o.ru, .ref o.ta, .int o.ty, .int o.sp, .int o.fr, .int o.re, .int o.ca, .int o.os, .int o.od, .ref o.na], eIA E o.sa 311 f, rs] 0 [some (.ref a), some (.int (nI k)), some (.int (eB b)), none, none] [] 0 0
  generalize hQ_ : eQ x E (fun w Γ => w = none ∧ ∃ f2 tt2, Γ = [eMO a o, eIA E o.sa 311 f2] ∧ rP f0 f2 N v gs (cs.set k (gCr2 (gCr1 b c))) bs tt2 st ∧ tt2 5 = gCo (nI k) (gCr1 b c) (tt 5) ∧ tt2 6 = tt 6 + ((gCr2 (gCr1 b c)).sold - c.sold) ∧ tt2 7 = tt 7 + ((gCr2 (gCr1 b c)).returned - c.returned) ∧ ∀ j, j ≠ 5 → j ≠ 6 → j ≠ 7 → tt2 j = tt j) rs = Q_
  have hz0 := hz
  obtain ⟨hN4, z2, z3, z4⟩ := hz
  have R0 : rP f0 f N v gs (cs.set k c) bs tt st := by rw [set_same_ hc]; exact R
  have hcr := gWfC_c hwc b
  refine z_iload_n C dX4_fills_0 rfl rfl ?_
  refine z_callS (As := [.int (nI k)]) (rest := []) (Δ := [eO a 4 [.ref o.sa, .ref o.pa, .ref o.ha, .ref o.xa, .int o.pn, .int o.ru, .ref o.ta, .int o.ty, .int o.sp, .int o.fr, .int o.re, .int o.ca, .int o.os, .int o.od, .ref o.na], eIA E o.sa 311 f, rs]) [] [0, 1, 2] 1 (m_McrateAt hl E k) C dX4_fills_1 rfl rfl rfl q1812 q1813 q67 q1814 (by decide +kernel) rfl (ePm 3 rfl (by decide +kernel)) rfl rfl ⟨Nat.le_of_ble_eq_true rfl, Nat.le_of_ble_eq_true rfl⟩ (Nat.le_trans eS0 (Nat.le_of_ble_eq_true rfl)) ⟨Nat.le_of_ble_eq_true rfl, Nat.le_of_ble_eq_true rfl⟩ (fun v_ Γ_ hp_ => ?_)
  obtain ⟨rfl, rfl⟩ := hp_
  show eZ x E _ [eO a 4 [.ref o.sa, .ref o.pa, .ref o.ha, .ref o.xa, .int o.pn, .int o.ru, .ref o.ta, .int o.ty, .int o.sp, .int o.fr, .int o.re, .int o.ca, .int o.os, .int o.od, .ref o.na], eIA E o.sa 311 f, rs] 4 [some (.ref a), some (.int (nI k)), some (.int (eB b)), none, none] [.int (nI (216 + 5 * k))] 0 0
  refine z_istore_n (L2 := [some (.ref a), some (.int (nI k)), some (.int (eB b)), some (.int (nI (216 + 5 * k))), none]) C dX4_fills_4 rfl (Nat.le_of_ble_eq_true rfl) rfl ?_
  refine z_aload_n C dX4_fills_5 rfl rfl ?_
  refine z_get eK4 0 0 C dX4_fills_6 rfl rfl q1671 (eSame1 rfl) (by decide) rfl ?_
  refine z_iload_n C dX4_fills_9 rfl rfl ?_
  refine z_iconst (v := 0) C dX4_fills_10 (by decide) ?_
  refine z_iadd (w := nI (216 + 5 * k)) C dX4_fills_11 (nI_add (216 + 5 * k) 0) ?_
  refine z_dup2 C dX4_fills_12 rfl rfl ?_
  refine z_iald (m := (216 + 5 * k)) (v := c.eggs) 1 C dX4_fills_13 rfl rfl (by omega) (by decide) (R0.2.2.1 k c (set_get_ hc) 0 (by decide)) ?_
  refine z_iconst (v := 1) C dX4_fills_14 (by decide) ?_
  refine z_iadd (w := c.eggs + 1) C dX4_fills_15 rfl ?_
  refine z_is (w := c.eggs + 1) rfl ?_
  obtain ⟨f1, hf1⟩ : ∃ q_ : Nat → Int32, q_ = upd f (216 + 5 * k) (c.eggs + 1) := ⟨_, rfl⟩
  refine z_iast (m := (216 + 5 * k)) (Γ2 := [eO a 4 [.ref o.sa, .ref o.pa, .ref o.ha, .ref o.xa, .int o.pn, .int o.ru, .ref o.ta, .int o.ty, .int o.sp, .int o.fr, .int o.re, .int o.ca, .int o.os, .int o.od, .ref o.na], eIA E o.sa 311 f1, rs]) 1 C dX4_fills_16 rfl rfl (by omega) (by decide) (by rw [hf1]; rfl) ?_
  have R2 : rP f0 f1 N v gs (cs.set k (c.eggs + 1, c.cracked, c.sold, c.returned, c.all)) bs tt st := by rw [hf1]; exact rP_cc c (c.eggs + 1, c.cracked, c.sold, c.returned, c.all) hc 0 (c.eggs + 1) (by decide) (by intro i h2; have h : i = 0 ∨ i = 1 ∨ i = 2 ∨ i = 3 ∨ i = 4 := (by omega); rcases h with rfl | rfl | rfl | rfl | rfl <;> rfl) hz0 R0
  refine z_aload_n C dX4_fills_17 rfl rfl ?_
  refine z_get eK4 0 0 C dX4_fills_18 rfl rfl q1671 (eSame1 rfl) (by decide) rfl ?_
  refine z_iload_n C dX4_fills_21 rfl rfl ?_
  refine z_iconst (v := 3) C dX4_fills_22 (by decide) ?_
  refine z_iadd (w := nI (216 + 5 * k + 3)) C dX4_fills_23 (nI_add (216 + 5 * k) 3) ?_
  refine z_dup2 C dX4_fills_24 rfl rfl ?_
  refine z_iald (m := (216 + 5 * k + 3)) (v := c.cracked) 1 C dX4_fills_25 rfl rfl (by omega) (by decide) (R2.2.2.1 k (c.eggs + 1, c.cracked, c.sold, c.returned, c.all) (set_get_ hc) 3 (by decide)) ?_
  refine z_iload_n C dX4_fills_26 rfl rfl ?_
  refine z_iadd (w := c.cracked + (eB b)) C dX4_fills_27 rfl ?_
  obtain ⟨f3, hf3⟩ : ∃ q_ : Nat → Int32, q_ = upd f1 (216 + 5 * k + 3) (c.cracked + (eB b)) := ⟨_, rfl⟩
  refine z_iast (m := (216 + 5 * k + 3)) (Γ2 := [eO a 4 [.ref o.sa, .ref o.pa, .ref o.ha, .ref o.xa, .int o.pn, .int o.ru, .ref o.ta, .int o.ty, .int o.sp, .int o.fr, .int o.re, .int o.ca, .int o.os, .int o.od, .ref o.na], eIA E o.sa 311 f3, rs]) 1 C dX4_fills_28 rfl rfl (by omega) (by decide) (by rw [hf3]; rfl) ?_
  have R4 : rP f0 f3 N v gs (cs.set k (c.eggs + 1, c.cracked + eB b, c.sold, c.returned, c.all)) bs tt st := by rw [hf3]; exact rP_cc (c.eggs + 1, c.cracked, c.sold, c.returned, c.all) (c.eggs + 1, c.cracked + eB b, c.sold, c.returned, c.all) hc 3 (c.cracked + (eB b)) (by decide) (by intro i h2; have h : i = 0 ∨ i = 1 ∨ i = 2 ∨ i = 3 ∨ i = 4 := (by omega); rcases h with rfl | rfl | rfl | rfl | rfl <;> rfl) hz0 R2
  refine z_aload_n C dX4_fills_29 rfl rfl ?_
  refine z_get eK4 0 0 C dX4_fills_30 rfl rfl q1671 (eSame1 rfl) (by decide) rfl ?_
  refine z_iload_n C dX4_fills_33 rfl rfl ?_
  refine z_iconst (v := 4) C dX4_fills_34 (by decide) ?_
  refine z_iadd (w := nI (216 + 5 * k + 4)) C dX4_fills_35 (nI_add (216 + 5 * k) 4) ?_
  refine z_dup2 C dX4_fills_36 rfl rfl ?_
  refine z_iald (m := (216 + 5 * k + 4)) (v := c.all) 1 C dX4_fills_37 rfl rfl (by omega) (by decide) (R4.2.2.1 k (c.eggs + 1, c.cracked + eB b, c.sold, c.returned, c.all) (set_get_ hc) 4 (by decide)) ?_
  refine z_iconst (v := 1) C dX4_fills_38 (by decide) ?_
  refine z_iadd (w := c.all + 1) C dX4_fills_39 rfl ?_
  obtain ⟨f5, hf5⟩ : ∃ q_ : Nat → Int32, q_ = upd f3 (216 + 5 * k + 4) (c.all + 1) := ⟨_, rfl⟩
  refine z_iast (m := (216 + 5 * k + 4)) (Γ2 := [eO a 4 [.ref o.sa, .ref o.pa, .ref o.ha, .ref o.xa, .int o.pn, .int o.ru, .ref o.ta, .int o.ty, .int o.sp, .int o.fr, .int o.re, .int o.ca, .int o.os, .int o.od, .ref o.na], eIA E o.sa 311 f5, rs]) 1 C dX4_fills_40 rfl rfl (by omega) (by decide) (by rw [hf5]; rfl) ?_
  have R6 : rP f0 f5 N v gs (cs.set k (c.eggs + 1, c.cracked + eB b, c.sold, c.returned, c.all + 1)) bs tt st := by rw [hf5]; exact rP_cc (c.eggs + 1, c.cracked + eB b, c.sold, c.returned, c.all) (c.eggs + 1, c.cracked + eB b, c.sold, c.returned, c.all + 1) hc 4 (c.all + 1) (by decide) (by intro i h2; have h : i = 0 ∨ i = 1 ∨ i = 2 ∨ i = 3 ∨ i = 4 := (by omega); rcases h with rfl | rfl | rfl | rfl | rfl <;> rfl) hz0 R4
  refine z_aload_n C dX4_fills_41 rfl rfl ?_
  refine z_get eK4 0 0 C dX4_fills_42 rfl rfl q1671 (eSame1 rfl) (by decide) rfl ?_
  refine z_iload_n C dX4_fills_45 rfl rfl ?_
  refine z_iconst (v := 0) C dX4_fills_46 (by decide) ?_
  refine z_iadd (w := nI (216 + 5 * k)) C dX4_fills_47 (nI_add (216 + 5 * k) 0) ?_
  refine z_iald (m := (216 + 5 * k)) (v := c.eggs + 1) 1 C dX4_fills_48 rfl rfl (by omega) (by decide) (R6.2.2.1 k (c.eggs + 1, c.cracked + eB b, c.sold, c.returned, c.all + 1) (set_get_ hc) 0 (by decide)) ?_
  refine z_bipush (v := 6) C dX4_fills_49 (by decide) ?_
  refine z_icmp_ge 55 C dX4_fills_51 (by decide) (fun h1 => ?_) (fun h1 => ?_)
  · have h6 : c.eggs + 1 = 6 := hcr.2 h1
    have hg : gCr2 (gCr1 b c) = (0, 0, c.sold + eB (!decide (0 < c.cracked + eB b)), c.returned + eB (decide (0 < c.cracked + eB b)), c.all + 1) := if_pos h6
    refine z_aload_n C dX4_fills_55 rfl rfl ?_
    refine z_get eK4 0 0 C dX4_fills_56 rfl rfl q1671 (eSame1 rfl) (by decide) rfl ?_
    refine z_iload_n C dX4_fills_59 rfl rfl ?_
    refine z_iconst (v := 3) C dX4_fills_60 (by decide) ?_
    refine z_iadd (w := nI (216 + 5 * k + 3)) C dX4_fills_61 (nI_add (216 + 5 * k) 3) ?_
    refine z_iald (m := (216 + 5 * k + 3)) (v := c.cracked + eB b) 1 C dX4_fills_62 rfl rfl (by omega) (by decide) (R6.2.2.1 k (c.eggs + 1, c.cracked + eB b, c.sold, c.returned, c.all + 1) (set_get_ hc) 3 (by decide)) ?_
    suffices J_ : eZ x E Q_ [eO a 4 [.ref o.sa, .ref o.pa, .ref o.ha, .ref o.xa, .int o.pn, .int o.ru, .ref o.ta, .int o.ty, .int o.sp, .int o.fr, .int o.re, .int o.ca, .int o.os, .int o.od, .ref o.na], eIA E o.sa 311 f5, rs] 71 [some (.ref a), some (.int (nI k)), some (.int (eB b)), some (.int (nI (216 + 5 * k))), none] [.int (eB (!decide (0 < c.cracked + eB b)))] 0 0 by
      refine z_if_ne 70 C dX4_fills_63 (by decide) (fun h_ => ?_) (fun h_ => ?_)
      · refine z_iconst (v := 0) C dX4_fills_70 (by decide) ?_
        refine z_is (w := eB (!decide (0 < c.cracked + eB b))) (by rw [decide_eq_true (Int32.lt_of_le_of_ne hcr.1 (Ne.symm h_))]; rfl) ?_
        exact J_
      · refine z_iconst (v := 1) C dX4_fills_66 (by decide) ?_
        refine z_goto 71 C dX4_fills_67 (by decide) ?_
        refine z_is (w := eB (!decide (0 < c.cracked + eB b))) (by rw [decide_eq_false (fun h => by rw [h_] at h; exact absurd h (by decide))]; rfl) ?_
        exact J_
    refine z_istore (L2 := [some (.ref a), some (.int (nI k)), some (.int (eB b)), some (.int (nI (216 + 5 * k))), some (.int (eB (!decide (0 < c.cracked + eB b))))]) C dX4_fills_71 (Nat.le_of_ble_eq_true rfl) rfl ?_
    refine z_aload_n C dX4_fills_73 rfl rfl ?_
    refine z_get eK4 0 0 C dX4_fills_74 rfl rfl q1671 (eSame1 rfl) (by decide) rfl ?_
    refine z_iload_n C dX4_fills_77 rfl rfl ?_
    refine z_iconst (v := 1) C dX4_fills_78 (by decide) ?_
    refine z_iadd (w := nI (216 + 5 * k + 1)) C dX4_fills_79 (nI_add (216 + 5 * k) 1) ?_
    refine z_dup2 C dX4_fills_80 rfl rfl ?_
    refine z_iald (m := (216 + 5 * k + 1)) (v := c.sold) 1 C dX4_fills_81 rfl rfl (by omega) (by decide) (R6.2.2.1 k (c.eggs + 1, c.cracked + eB b, c.sold, c.returned, c.all + 1) (set_get_ hc) 1 (by decide)) ?_
    refine z_iload C dX4_fills_82 rfl ?_
    suffices J_ : eZ x E Q_ [eO a 4 [.ref o.sa, .ref o.pa, .ref o.ha, .ref o.xa, .int o.pn, .int o.ru, .ref o.ta, .int o.ty, .int o.sp, .int o.fr, .int o.re, .int o.ca, .int o.os, .int o.od, .ref o.na], eIA E o.sa 311 f5, rs] 92 [some (.ref a), some (.int (nI k)), some (.int (eB b)), some (.int (nI (216 + 5 * k))), some (.int (eB (!decide (0 < c.cracked + eB b))))] [.int (eB (!decide (0 < c.cracked + eB b))), .int c.sold, .int (nI (216 + 5 * k + 1)), .ref o.sa] 0 0 by
      refine z_if_eq_B 91 C dX4_fills_84 (by decide) (fun h_ => ?_) (fun h_ => ?_)
      · refine z_iconst (v := 0) C dX4_fills_91 (by decide) ?_
        refine z_is (w := eB (!decide (0 < c.cracked + eB b))) (by rw [tn_f h_]; rfl) ?_
        exact J_
      · refine z_iconst (v := 1) C dX4_fills_87 (by decide) ?_
        refine z_goto 92 C dX4_fills_88 (by decide) ?_
        refine z_is (w := eB (!decide (0 < c.cracked + eB b))) (by rw [tn_t h_]; rfl) ?_
        exact J_
    refine z_iadd (w := c.sold + (eB (!decide (0 < c.cracked + eB b)))) C dX4_fills_92 rfl ?_
    obtain ⟨f7, hf7⟩ : ∃ q_ : Nat → Int32, q_ = upd f5 (216 + 5 * k + 1) (c.sold + (eB (!decide (0 < c.cracked + eB b)))) := ⟨_, rfl⟩
    refine z_iast (m := (216 + 5 * k + 1)) (Γ2 := [eO a 4 [.ref o.sa, .ref o.pa, .ref o.ha, .ref o.xa, .int o.pn, .int o.ru, .ref o.ta, .int o.ty, .int o.sp, .int o.fr, .int o.re, .int o.ca, .int o.os, .int o.od, .ref o.na], eIA E o.sa 311 f7, rs]) 1 C dX4_fills_93 rfl rfl (by omega) (by decide) (by rw [hf7]; rfl) ?_
    have R8 : rP f0 f7 N v gs (cs.set k (c.eggs + 1, c.cracked + eB b, c.sold + eB (!decide (0 < c.cracked + eB b)), c.returned, c.all + 1)) bs tt st := by rw [hf7]; exact rP_cc (c.eggs + 1, c.cracked + eB b, c.sold, c.returned, c.all + 1) (c.eggs + 1, c.cracked + eB b, c.sold + eB (!decide (0 < c.cracked + eB b)), c.returned, c.all + 1) hc 1 (c.sold + (eB (!decide (0 < c.cracked + eB b)))) (by decide) (by intro i h2; have h : i = 0 ∨ i = 1 ∨ i = 2 ∨ i = 3 ∨ i = 4 := (by omega); rcases h with rfl | rfl | rfl | rfl | rfl <;> rfl) hz0 R6
    refine z_aload_n C dX4_fills_94 rfl rfl ?_
    refine z_get eK4 0 0 C dX4_fills_95 rfl rfl q1671 (eSame1 rfl) (by decide) rfl ?_
    refine z_iload_n C dX4_fills_98 rfl rfl ?_
    refine z_iconst (v := 2) C dX4_fills_99 (by decide) ?_
    refine z_iadd (w := nI (216 + 5 * k + 2)) C dX4_fills_100 (nI_add (216 + 5 * k) 2) ?_
    refine z_dup2 C dX4_fills_101 rfl rfl ?_
    refine z_iald (m := (216 + 5 * k + 2)) (v := c.returned) 1 C dX4_fills_102 rfl rfl (by omega) (by decide) (R8.2.2.1 k (c.eggs + 1, c.cracked + eB b, c.sold + eB (!decide (0 < c.cracked + eB b)), c.returned, c.all + 1) (set_get_ hc) 2 (by decide)) ?_
    refine z_iload C dX4_fills_103 rfl ?_
    suffices J_ : eZ x E Q_ [eO a 4 [.ref o.sa, .ref o.pa, .ref o.ha, .ref o.xa, .int o.pn, .int o.ru, .ref o.ta, .int o.ty, .int o.sp, .int o.fr, .int o.re, .int o.ca, .int o.os, .int o.od, .ref o.na], eIA E o.sa 311 f7, rs] 113 [some (.ref a), some (.int (nI k)), some (.int (eB b)), some (.int (nI (216 + 5 * k))), some (.int (eB (!decide (0 < c.cracked + eB b))))] [.int (eB (decide (0 < c.cracked + eB b))), .int c.returned, .int (nI (216 + 5 * k + 2)), .ref o.sa] 0 0 by
      refine z_if_eq_B 112 C dX4_fills_105 (by decide) (fun h_ => ?_) (fun h_ => ?_)
      · refine z_iconst (v := 1) C dX4_fills_112 (by decide) ?_
        refine z_is (w := eB (decide (0 < c.cracked + eB b))) (by rw [tn_f h_]; rfl) ?_
        exact J_
      · refine z_iconst (v := 0) C dX4_fills_108 (by decide) ?_
        refine z_goto 113 C dX4_fills_109 (by decide) ?_
        refine z_is (w := eB (decide (0 < c.cracked + eB b))) (by rw [tn_t h_]; rfl) ?_
        exact J_
    refine z_iadd (w := c.returned + (eB (decide (0 < c.cracked + eB b)))) C dX4_fills_113 rfl ?_
    obtain ⟨f9, hf9⟩ : ∃ q_ : Nat → Int32, q_ = upd f7 (216 + 5 * k + 2) (c.returned + (eB (decide (0 < c.cracked + eB b)))) := ⟨_, rfl⟩
    refine z_iast (m := (216 + 5 * k + 2)) (Γ2 := [eO a 4 [.ref o.sa, .ref o.pa, .ref o.ha, .ref o.xa, .int o.pn, .int o.ru, .ref o.ta, .int o.ty, .int o.sp, .int o.fr, .int o.re, .int o.ca, .int o.os, .int o.od, .ref o.na], eIA E o.sa 311 f9, rs]) 1 C dX4_fills_114 rfl rfl (by omega) (by decide) (by rw [hf9]; rfl) ?_
    have R10 : rP f0 f9 N v gs (cs.set k (c.eggs + 1, c.cracked + eB b, c.sold + eB (!decide (0 < c.cracked + eB b)), c.returned + eB (decide (0 < c.cracked + eB b)), c.all + 1)) bs tt st := by rw [hf9]; exact rP_cc (c.eggs + 1, c.cracked + eB b, c.sold + eB (!decide (0 < c.cracked + eB b)), c.returned, c.all + 1) (c.eggs + 1, c.cracked + eB b, c.sold + eB (!decide (0 < c.cracked + eB b)), c.returned + eB (decide (0 < c.cracked + eB b)), c.all + 1) hc 2 (c.returned + (eB (decide (0 < c.cracked + eB b)))) (by decide) (by intro i h2; have h : i = 0 ∨ i = 1 ∨ i = 2 ∨ i = 3 ∨ i = 4 := (by omega); rcases h with rfl | rfl | rfl | rfl | rfl <;> rfl) hz0 R8
    refine z_aload_n C dX4_fills_115 rfl rfl ?_
    refine z_get eK4 0 0 C dX4_fills_116 rfl rfl q1671 (eSame1 rfl) (by decide) rfl ?_
    refine z_sipush (v := 302) C dX4_fills_119 (by decide) ?_
    refine z_dup2 C dX4_fills_122 rfl rfl ?_
    refine z_iald (m := 302) (v := tt 6) 1 C dX4_fills_123 rfl rfl (by omega) (by decide) (R10.2.2.2.2.1 6 (by decide)) ?_
    refine z_iload C dX4_fills_124 rfl ?_
    suffices J_ : eZ x E Q_ [eO a 4 [.ref o.sa, .ref o.pa, .ref o.ha, .ref o.xa, .int o.pn, .int o.ru, .ref o.ta, .int o.ty, .int o.sp, .int o.fr, .int o.re, .int o.ca, .int o.os, .int o.od, .ref o.na], eIA E o.sa 311 f9, rs] 134 [some (.ref a), some (.int (nI k)), some (.int (eB b)), some (.int (nI (216 + 5 * k))), some (.int (eB (!decide (0 < c.cracked + eB b))))] [.int (eB (!decide (0 < c.cracked + eB b))), .int (tt 6), .int 302, .ref o.sa] 0 0 by
      refine z_if_eq_B 133 C dX4_fills_126 (by decide) (fun h_ => ?_) (fun h_ => ?_)
      · refine z_iconst (v := 0) C dX4_fills_133 (by decide) ?_
        refine z_is (w := eB (!decide (0 < c.cracked + eB b))) (by rw [tn_f h_]; rfl) ?_
        exact J_
      · refine z_iconst (v := 1) C dX4_fills_129 (by decide) ?_
        refine z_goto 134 C dX4_fills_130 (by decide) ?_
        refine z_is (w := eB (!decide (0 < c.cracked + eB b))) (by rw [tn_t h_]; rfl) ?_
        exact J_
    refine z_iadd (w := (tt 6) + (eB (!decide (0 < c.cracked + eB b)))) C dX4_fills_134 rfl ?_
    obtain ⟨f11, hf11⟩ : ∃ q_ : Nat → Int32, q_ = upd f9 302 ((tt 6) + (eB (!decide (0 < c.cracked + eB b)))) := ⟨_, rfl⟩
    refine z_iast (m := 302) (Γ2 := [eO a 4 [.ref o.sa, .ref o.pa, .ref o.ha, .ref o.xa, .int o.pn, .int o.ru, .ref o.ta, .int o.ty, .int o.sp, .int o.fr, .int o.re, .int o.ca, .int o.os, .int o.od, .ref o.na], eIA E o.sa 311 f11, rs]) 1 C dX4_fills_135 rfl rfl (by omega) (by decide) (by rw [hf11]; rfl) ?_
    have R12 : rP f0 f11 N v gs (cs.set k (c.eggs + 1, c.cracked + eB b, c.sold + eB (!decide (0 < c.cracked + eB b)), c.returned + eB (decide (0 < c.cracked + eB b)), c.all + 1)) bs (upd tt 6 ((tt 6) + (eB (!decide (0 < c.cracked + eB b))))) st := by rw [hf11]; exact rP_tc 6 ((tt 6) + (eB (!decide (0 < c.cracked + eB b)))) (by decide) hz0 R10
    refine z_aload_n C dX4_fills_136 rfl rfl ?_
    refine z_get eK4 0 0 C dX4_fills_137 rfl rfl q1671 (eSame1 rfl) (by decide) rfl ?_
    refine z_sipush (v := 303) C dX4_fills_140 (by decide) ?_
    refine z_dup2 C dX4_fills_143 rfl rfl ?_
    refine z_iald (m := 303) (v := tt 7) 1 C dX4_fills_144 rfl rfl (by omega) (by decide) (R12.2.2.2.2.1 7 (by decide)) ?_
    refine z_iload C dX4_fills_145 rfl ?_
    suffices J_ : eZ x E Q_ [eO a 4 [.ref o.sa, .ref o.pa, .ref o.ha, .ref o.xa, .int o.pn, .int o.ru, .ref o.ta, .int o.ty, .int o.sp, .int o.fr, .int o.re, .int o.ca, .int o.os, .int o.od, .ref o.na], eIA E o.sa 311 f11, rs] 155 [some (.ref a), some (.int (nI k)), some (.int (eB b)), some (.int (nI (216 + 5 * k))), some (.int (eB (!decide (0 < c.cracked + eB b))))] [.int (eB (decide (0 < c.cracked + eB b))), .int (tt 7), .int 303, .ref o.sa] 0 0 by
      refine z_if_eq_B 154 C dX4_fills_147 (by decide) (fun h_ => ?_) (fun h_ => ?_)
      · refine z_iconst (v := 1) C dX4_fills_154 (by decide) ?_
        refine z_is (w := eB (decide (0 < c.cracked + eB b))) (by rw [tn_f h_]; rfl) ?_
        exact J_
      · refine z_iconst (v := 0) C dX4_fills_150 (by decide) ?_
        refine z_goto 155 C dX4_fills_151 (by decide) ?_
        refine z_is (w := eB (decide (0 < c.cracked + eB b))) (by rw [tn_t h_]; rfl) ?_
        exact J_
    refine z_iadd (w := (tt 7) + (eB (decide (0 < c.cracked + eB b)))) C dX4_fills_155 rfl ?_
    obtain ⟨f13, hf13⟩ : ∃ q_ : Nat → Int32, q_ = upd f11 303 ((tt 7) + (eB (decide (0 < c.cracked + eB b)))) := ⟨_, rfl⟩
    refine z_iast (m := 303) (Γ2 := [eO a 4 [.ref o.sa, .ref o.pa, .ref o.ha, .ref o.xa, .int o.pn, .int o.ru, .ref o.ta, .int o.ty, .int o.sp, .int o.fr, .int o.re, .int o.ca, .int o.os, .int o.od, .ref o.na], eIA E o.sa 311 f13, rs]) 1 C dX4_fills_156 rfl rfl (by omega) (by decide) (by rw [hf13]; rfl) ?_
    have R14 : rP f0 f13 N v gs (cs.set k (c.eggs + 1, c.cracked + eB b, c.sold + eB (!decide (0 < c.cracked + eB b)), c.returned + eB (decide (0 < c.cracked + eB b)), c.all + 1)) bs (upd (upd tt 6 ((tt 6) + (eB (!decide (0 < c.cracked + eB b))))) 7 ((tt 7) + (eB (decide (0 < c.cracked + eB b))))) st := by rw [hf13]; exact rP_tc 7 ((tt 7) + (eB (decide (0 < c.cracked + eB b)))) (by decide) hz0 R12
    refine z_aload_n C dX4_fills_157 rfl rfl ?_
    refine z_get eK4 0 0 C dX4_fills_158 rfl rfl q1671 (eSame1 rfl) (by decide) rfl ?_
    refine z_sipush (v := 301) C dX4_fills_161 (by decide) ?_
    refine z_dup2 C dX4_fills_164 rfl rfl ?_
    refine z_iald (m := 301) (v := tt 5) 1 C dX4_fills_165 rfl rfl (by omega) (by decide) (R14.2.2.2.2.1 5 (by decide)) ?_
    refine z_iload C dX4_fills_166 rfl ?_
    suffices J_ : eZ x E Q_ [eO a 4 [.ref o.sa, .ref o.pa, .ref o.ha, .ref o.xa, .int o.pn, .int o.ru, .ref o.ta, .int o.ty, .int o.sp, .int o.fr, .int o.re, .int o.ca, .int o.os, .int o.od, .ref o.na], eIA E o.sa 311 f13, rs] 182 [some (.ref a), some (.int (nI k)), some (.int (eB b)), some (.int (nI (216 + 5 * k))), some (.int (eB (!decide (0 < c.cracked + eB b))))] [.int (if 0 < c.cracked + eB b then 0 else 6 * gMPr (nI k)), .int (tt 5), .int 301, .ref o.sa] 0 0 by
      refine z_if_eq_B 181 C dX4_fills_168 (by decide) (fun h_ => ?_) (fun h_ => ?_)
      · refine z_iconst (v := 0) C dX4_fills_181 (by decide) ?_
        refine z_is (w := if 0 < c.cracked + eB b then 0 else 6 * gMPr (nI k)) (if_pos (of_decide_eq_true (tn_f h_))).symm ?_
        exact J_
      · refine z_bipush (v := 6) C dX4_fills_171 (by decide) ?_
        refine z_iload_n C dX4_fills_173 rfl rfl ?_
        refine z_callS (As := [.int (nI k)]) (rest := [.int 6, .int (tt 5), .int 301, .ref o.sa]) (Δ := [eO a 4 [.ref o.sa, .ref o.pa, .ref o.ha, .ref o.xa, .int o.pn, .int o.ru, .ref o.ta, .int o.ty, .int o.sp, .int o.fr, .int o.re, .int o.ca, .int o.os, .int o.od, .ref o.na], eIA E o.sa 311 f13, rs]) [] [0, 1, 2] 1 (m_MpriceOf hl E (nI k)) C dX4_fills_174 rfl rfl rfl q1815 q1816 q67 q1817 (by decide +kernel) rfl (ePm 3 rfl (by decide +kernel)) rfl rfl ⟨Nat.le_of_ble_eq_true rfl, Nat.le_of_ble_eq_true rfl⟩ (Nat.le_trans (eSm rfl (eSm rfl (eSm rfl (eSm rfl eS0)))) (Nat.le_of_ble_eq_true rfl)) ⟨Nat.le_of_ble_eq_true rfl, Nat.le_of_ble_eq_true rfl⟩ (fun v_ Γ_ hp_ => ?_)
        obtain ⟨rfl, rfl⟩ := hp_
        show eZ x E _ [eO a 4 [.ref o.sa, .ref o.pa, .ref o.ha, .ref o.xa, .int o.pn, .int o.ru, .ref o.ta, .int o.ty, .int o.sp, .int o.fr, .int o.re, .int o.ca, .int o.os, .int o.od, .ref o.na], eIA E o.sa 311 f13, rs] 177 [some (.ref a), some (.int (nI k)), some (.int (eB b)), some (.int (nI (216 + 5 * k))), some (.int (eB (!decide (0 < c.cracked + eB b))))] [.int (gMPr (nI k)), .int 6, .int (tt 5), .int 301, .ref o.sa] 0 0
        refine z_imul (w := 6 * (gMPr (nI k))) C dX4_fills_177 rfl ?_
        refine z_goto 182 C dX4_fills_178 (by decide) ?_
        refine z_is (w := if 0 < c.cracked + eB b then 0 else 6 * gMPr (nI k)) (if_neg (of_decide_eq_false (tn_t h_))).symm ?_
        exact J_
    refine z_iadd (w := (tt 5) + (if 0 < c.cracked + eB b then 0 else 6 * gMPr (nI k))) C dX4_fills_182 rfl ?_
    obtain ⟨f15, hf15⟩ : ∃ q_ : Nat → Int32, q_ = upd f13 301 ((tt 5) + (if 0 < c.cracked + eB b then 0 else 6 * gMPr (nI k))) := ⟨_, rfl⟩
    refine z_iast (m := 301) (Γ2 := [eO a 4 [.ref o.sa, .ref o.pa, .ref o.ha, .ref o.xa, .int o.pn, .int o.ru, .ref o.ta, .int o.ty, .int o.sp, .int o.fr, .int o.re, .int o.ca, .int o.os, .int o.od, .ref o.na], eIA E o.sa 311 f15, rs]) 1 C dX4_fills_183 rfl rfl (by omega) (by decide) (by rw [hf15]; rfl) ?_
    have R16 : rP f0 f15 N v gs (cs.set k (c.eggs + 1, c.cracked + eB b, c.sold + eB (!decide (0 < c.cracked + eB b)), c.returned + eB (decide (0 < c.cracked + eB b)), c.all + 1)) bs (upd (upd (upd tt 6 ((tt 6) + (eB (!decide (0 < c.cracked + eB b))))) 7 ((tt 7) + (eB (decide (0 < c.cracked + eB b))))) 5 ((tt 5) + (if 0 < c.cracked + eB b then 0 else 6 * gMPr (nI k)))) st := by rw [hf15]; exact rP_tc 5 ((tt 5) + (if 0 < c.cracked + eB b then 0 else 6 * gMPr (nI k))) (by decide) hz0 R14
    refine z_aload_n C dX4_fills_184 rfl rfl ?_
    refine z_get eK4 0 0 C dX4_fills_185 rfl rfl q1671 (eSame1 rfl) (by decide) rfl ?_
    refine z_iload_n C dX4_fills_188 rfl rfl ?_
    refine z_iconst (v := 0) C dX4_fills_189 (by decide) ?_
    refine z_iadd (w := nI (216 + 5 * k)) C dX4_fills_190 (nI_add (216 + 5 * k) 0) ?_
    refine z_iconst (v := 0) C dX4_fills_191 (by decide) ?_
    obtain ⟨f17, hf17⟩ : ∃ q_ : Nat → Int32, q_ = upd f15 (216 + 5 * k) 0 := ⟨_, rfl⟩
    refine z_iast (m := (216 + 5 * k)) (Γ2 := [eO a 4 [.ref o.sa, .ref o.pa, .ref o.ha, .ref o.xa, .int o.pn, .int o.ru, .ref o.ta, .int o.ty, .int o.sp, .int o.fr, .int o.re, .int o.ca, .int o.os, .int o.od, .ref o.na], eIA E o.sa 311 f17, rs]) 1 C dX4_fills_192 rfl rfl (by omega) (by decide) (by rw [hf17]; rfl) ?_
    have R18 : rP f0 f17 N v gs (cs.set k (0, c.cracked + eB b, c.sold + eB (!decide (0 < c.cracked + eB b)), c.returned + eB (decide (0 < c.cracked + eB b)), c.all + 1)) bs (upd (upd (upd tt 6 ((tt 6) + (eB (!decide (0 < c.cracked + eB b))))) 7 ((tt 7) + (eB (decide (0 < c.cracked + eB b))))) 5 ((tt 5) + (if 0 < c.cracked + eB b then 0 else 6 * gMPr (nI k)))) st := by rw [hf17]; exact rP_cc (c.eggs + 1, c.cracked + eB b, c.sold + eB (!decide (0 < c.cracked + eB b)), c.returned + eB (decide (0 < c.cracked + eB b)), c.all + 1) (0, c.cracked + eB b, c.sold + eB (!decide (0 < c.cracked + eB b)), c.returned + eB (decide (0 < c.cracked + eB b)), c.all + 1) hc 0 0 (by decide) (by intro i h2; have h : i = 0 ∨ i = 1 ∨ i = 2 ∨ i = 3 ∨ i = 4 := (by omega); rcases h with rfl | rfl | rfl | rfl | rfl <;> rfl) hz0 R16
    refine z_aload_n C dX4_fills_193 rfl rfl ?_
    refine z_get eK4 0 0 C dX4_fills_194 rfl rfl q1671 (eSame1 rfl) (by decide) rfl ?_
    refine z_iload_n C dX4_fills_197 rfl rfl ?_
    refine z_iconst (v := 3) C dX4_fills_198 (by decide) ?_
    refine z_iadd (w := nI (216 + 5 * k + 3)) C dX4_fills_199 (nI_add (216 + 5 * k) 3) ?_
    refine z_iconst (v := 0) C dX4_fills_200 (by decide) ?_
    obtain ⟨f19, hf19⟩ : ∃ q_ : Nat → Int32, q_ = upd f17 (216 + 5 * k + 3) 0 := ⟨_, rfl⟩
    refine z_iast (m := (216 + 5 * k + 3)) (Γ2 := [eO a 4 [.ref o.sa, .ref o.pa, .ref o.ha, .ref o.xa, .int o.pn, .int o.ru, .ref o.ta, .int o.ty, .int o.sp, .int o.fr, .int o.re, .int o.ca, .int o.os, .int o.od, .ref o.na], eIA E o.sa 311 f19, rs]) 1 C dX4_fills_201 rfl rfl (by omega) (by decide) (by rw [hf19]; rfl) ?_
    have R20 : rP f0 f19 N v gs (cs.set k (0, 0, c.sold + eB (!decide (0 < c.cracked + eB b)), c.returned + eB (decide (0 < c.cracked + eB b)), c.all + 1)) bs (upd (upd (upd tt 6 ((tt 6) + (eB (!decide (0 < c.cracked + eB b))))) 7 ((tt 7) + (eB (decide (0 < c.cracked + eB b))))) 5 ((tt 5) + (if 0 < c.cracked + eB b then 0 else 6 * gMPr (nI k)))) st := by rw [hf19]; exact rP_cc (0, c.cracked + eB b, c.sold + eB (!decide (0 < c.cracked + eB b)), c.returned + eB (decide (0 < c.cracked + eB b)), c.all + 1) (0, 0, c.sold + eB (!decide (0 < c.cracked + eB b)), c.returned + eB (decide (0 < c.cracked + eB b)), c.all + 1) hc 3 0 (by decide) (by intro i h2; have h : i = 0 ∨ i = 1 ∨ i = 2 ∨ i = 3 ∨ i = 4 := (by omega); rcases h with rfl | rfl | rfl | rfl | rfl <;> rfl) hz0 R18
    subst hQ_
    exact z_vret (Γ := [eO a 4 [.ref o.sa, .ref o.pa, .ref o.ha, .ref o.xa, .int o.pn, .int o.ru, .ref o.ta, .int o.ty, .int o.sp, .int o.fr, .int o.re, .int o.ca, .int o.os, .int o.od, .ref o.na], eIA E o.sa 311 f19]) C dX4_fills_202 rfl (Nat.le_of_ble_eq_true rfl) (Nat.le_of_ble_eq_true rfl) ⟨rfl, _, _, rfl, by rw [hg]; exact R20, by rw [gCo, if_pos (show (gCr1 b c).eggs = 6 from h6), ← gMPr_eq k hk6]; exact upd_self_ _ _ _, by rw [hg]; show tt 6 + eB (!decide (0 < c.cracked + eB b)) = tt 6 + (c.sold + eB (!decide (0 < c.cracked + eB b)) - c.sold); rw [Int32.add_comm c.sold, Int32.add_sub_cancel], by rw [hg]; show tt 7 + eB (decide (0 < c.cracked + eB b)) = tt 7 + (c.returned + eB (decide (0 < c.cracked + eB b)) - c.returned); rw [Int32.add_comm c.returned, Int32.add_sub_cancel], fun j h5 h6 h7 => by rw [upd_ne_ h5, upd_ne_ h7, upd_ne_ h6]⟩
  · have h6 : ¬ c.eggs + 1 = 6 := fun h => h1 (by rw [h]; exact Int32.le_refl _)
    have hg : gCr2 (gCr1 b c) = (c.eggs + 1, c.cracked + eB b, c.sold, c.returned, c.all + 1) := if_neg h6
    subst hQ_
    exact z_vret (Γ := [eO a 4 [.ref o.sa, .ref o.pa, .ref o.ha, .ref o.xa, .int o.pn, .int o.ru, .ref o.ta, .int o.ty, .int o.sp, .int o.fr, .int o.re, .int o.ca, .int o.os, .int o.od, .ref o.na], eIA E o.sa 311 f5]) C dX4_fills_54 rfl (Nat.le_of_ble_eq_true rfl) (Nat.le_of_ble_eq_true rfl) ⟨rfl, _, tt, rfl, by rw [hg]; exact R6, by rw [gCo, if_neg (show ¬ (gCr1 b c).eggs = 6 from h6)], by rw [hg]; show _ = tt 6 + (c.sold - c.sold); rw [Int32.sub_self, Int32.add_zero], by rw [hg]; show _ = tt 7 + (c.returned - c.returned); rw [Int32.sub_self, Int32.add_zero], fun _ _ _ _ => rfl⟩
