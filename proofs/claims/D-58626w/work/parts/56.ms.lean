/-! ===== the model: what is seen ===== -/
set_option maxRecDepth 100000
theorem nI_and_ (a b : Nat) : nI a &&& nI b = nI (a &&& b) := by
  unfold nI
  apply Int32.toBitVec_inj.mp
  rw [Int32.toBitVec_and]
  apply BitVec.eq_of_getLsbD_eq
  intro i hi
  simp
theorem nI_or_ (a b : Nat) : nI a ||| nI b = nI (a ||| b) := by
  unfold nI
  apply Int32.toBitVec_inj.mp
  rw [Int32.toBitVec_or]
  apply BitVec.eq_of_getLsbD_eq
  intro i hi
  simp
def mB : Nat → Nat → Nat
  | 0, _ => 0
  | d + 1, m => m % 2 + mB d (m / 2)
theorem mB_0 (d : Nat) : mB d 0 = 0 := by
  induction d with
  | zero => rfl
  | succ d ih => rw [mB, Nat.zero_div, ih]
theorem mB_8 : ∀ k, k < 256 → gBits (nI k) = nI (mB 8 k) := by decide +kernel
theorem nI_d2 : ∀ m, m < 256 → nI m / 2 = nI (m / 2) := by decide +kernel
theorem nI_m2 : ∀ m, m < 256 → nI m - nI m / 2 * 2 = nI (m % 2) := by decide +kernel
theorem gSeen_r : ∀ t, t < 8 → ∀ n, n < 9 → gSeenL (nI t) n = nI (nN (gSeenL (nI t) n)) ∧ nN (gSeenL (nI t) n) < 256 := by decide +kernel
theorem gWfS_0 {st : Nat → Int32} (h : gWfS st) : st 0 = nI (nN (st 0)) ∧ nN (st 0) ≤ 8 := by
  obtain ⟨n, hn, he⟩ := eBt_ex (hi := 8) (by decide) (eBt_mono h.1 (by decide) (Int32.le_refl _))
  rw [he, nN_nI (by omega)]
  exact ⟨rfl, hn⟩
theorem gSeenS_r {st : Nat → Int32} {tu : Int32} (h : gWfS st) (ht : eBt tu 1 7 = true) : ∃ k, k < 256 ∧ gSeenS st tu = nI k := by
  obtain ⟨n, hn, rfl⟩ := eBt_ex (hi := 7) (by decide) (eBt_mono ht (by decide) (Int32.le_refl _))
  have h9 := gSeen_r n (by omega) (nN (st 0)) (by have := (gWfS_0 h).2; omega)
  exact ⟨_, h9.2, h9.1⟩
theorem eBt_c {c : Int32} (h : eBt c (-1) 7 = true) : ∃ k, k < 9 ∧ c = nI k - 1 := by
  have h1 := of_decide_eq_true h
  have h2 := Int32.le_iff_toInt_le.mp h1.1
  have h3 := Int32.le_iff_toInt_le.mp h1.2
  rw [show (-1 : Int32).toInt = -1 from by decide] at h2
  rw [show (7 : Int32).toInt = 7 from by decide] at h3
  have h4 : c.toInt = -1 ∨ c.toInt = 0 ∨ c.toInt = 1 ∨ c.toInt = 2 ∨ c.toInt = 3 ∨ c.toInt = 4 ∨ c.toInt = 5 ∨ c.toInt = 6 ∨ c.toInt = 7 := by omega
  rcases h4 with h | h | h | h | h | h | h | h | h
  · exact ⟨0, by decide, Int32.toInt.inj (by rw [h]; decide)⟩
  · exact ⟨1, by decide, Int32.toInt.inj (by rw [h]; decide)⟩
  · exact ⟨2, by decide, Int32.toInt.inj (by rw [h]; decide)⟩
  · exact ⟨3, by decide, Int32.toInt.inj (by rw [h]; decide)⟩
  · exact ⟨4, by decide, Int32.toInt.inj (by rw [h]; decide)⟩
  · exact ⟨5, by decide, Int32.toInt.inj (by rw [h]; decide)⟩
  · exact ⟨6, by decide, Int32.toInt.inj (by rw [h]; decide)⟩
  · exact ⟨7, by decide, Int32.toInt.inj (by rw [h]; decide)⟩
  · exact ⟨8, by decide, Int32.toInt.inj (by rw [h]; decide)⟩
theorem eC_le : ∀ k, k < 9 → (nI k - 1 + 1 ≤ 0 ↔ nI k - 1 = -1) := by decide +kernel
theorem gCrk_le {g : Eg} (h : gEgOk g = true) : (g.c + 1 ≤ 0 ↔ g.c = -1) := by
  obtain ⟨k, hk, he⟩ := eBt_c (gEgOk_ h).2.2.2.2
  rw [he]; exact eC_le k hk
theorem gSp_r {v : Lv} {g : Eg} (h : gEgOk g = true) : ∃ k, k < 256 ∧ (gStE v g).sp = nI k := by
  obtain ⟨n, hn, he⟩ := eBt_ex (hi := 255) (by decide) (gEgOk_ h).2.2.1
  show ∃ k, k < 256 ∧ g.sp ||| (if 0 < v.st then 1 else 0) = nI k
  rw [he]
  split
  · refine ⟨n ||| 1, ?_, nI_or_ n 1⟩
    exact Nat.or_lt_two_pow (n := 8) (by omega) (by decide)
  · refine ⟨n ||| 0, ?_, nI_or_ n 0⟩
    exact Nat.or_lt_two_pow (n := 8) (by omega) (by decide)
theorem gStE_ok {v : Lv} {g : Eg} (h : gEgOk g = true) : gEgOk (gStE v g) = true := by
  obtain ⟨k, hk, he⟩ := gSp_r (v := v) h
  have h9 := gEgOk_ h
  have h8 : eBt (gStE v g).sp 0 255 = true := by rw [he]; exact decide_eq_true ⟨nI_pos' (by omega), nI_le (a := k) (b := 255) (by omega) (by decide)⟩
  show (eBt g.w 30 90 && (eBt g.sh 0 99 && (eBt (gStE v g).sp 0 255 && (eBt g.y 1 2 && eBt g.c (-1) 7)))) = true
  rw [h9.1, h9.2.1, h8, h9.2.2.2.1, h9.2.2.2.2]; rfl
/-- the light is another one -/
def gMBar (st : Nat → Int32) (v : Lv) (gs : List Eg) (li : Int32) : Int32 := match gs with | [] => 1 | g :: _ => gBar st (gWi v li) g
def gMSB (st : Nat → Int32) (v : Lv) (g : Eg) : Bool := gCrk g && decide ((gSeenS st v.tu >>> (g.c &&& 31)) &&& 1 = 1)
theorem gBar_M (st : Nat → Int32) (v : Lv) (g : Eg) : gBar st v g = if v.li < g.sh then 2 else if gMSB st v g = true then 3 else 0 := by
  unfold gBar gMSB
  by_cases hl : v.li < g.sh
  · rw [if_pos hl, if_pos hl]
  rw [if_neg hl, if_neg hl]
  by_cases h : gCrk g = true
  · rw [h, Bool.true_and]
    by_cases h2 : gSeenS st v.tu >>> (g.c &&& 31) &&& 1 = 1
    · rw [if_pos ⟨rfl, h2⟩, if_pos (decide_eq_true h2)]
    · rw [if_neg (fun h3 => h2 h3.2), if_neg (fun h3 => h2 (of_decide_eq_true h3))]
  · rw [if_neg (fun h3 : gCrk g = true ∧ _ => h h3.1), if_neg (fun h3 => h (Bool.and_eq_true_iff.mp h3).1)]
theorem gByW_M : ∀ n, n < 91 → 30 ≤ n → gByW (nI n, 0, 0, 0, 0, 0) = if nI n < 50 then 0 else if nI n < 60 then 1 else if nI n < 70 then 2 else 3 := by decide +kernel
theorem gByW_m {g : Eg} (h : gEgOk g = true) : gByW g = if g.w < 50 then 0 else if g.w < 60 then 1 else if g.w < 70 then 2 else 3 := by
  have h1 := (gEgOk_ h).1
  obtain ⟨n, hn, he⟩ := eBt_ex (hi := 90) (by decide) (eBt_mono h1 (by decide) (Int32.le_refl _))
  have h2 := (of_decide_eq_true h1).1
  rw [he] at h2
  have h3 : 30 ≤ n := (nI_leI (a := 30) (b := n) (by decide) (by omega)).mp h2
  have h4 := gByW_M n (by omega) h3
  unfold gByW at h4 ⊢
  rw [he]; exact h4
theorem eBt_0 {v lo hi : Int32} (h : eBt v lo hi = true) : lo ≤ v ∧ v ≤ hi := of_decide_eq_true h


set_option maxHeartbeats 4000000 in
theorem m_MseenBy {l : Launch} (hl : l.stackTraces = false) (E : eEn) (a : Nat) (o : Mo) (f : Nat → Int32) (st : Nat → Int32) (RS : rS f st) (hS : gWfS st) (tu : Int32) : eMet l E yX4_seenBy (ws_ yX4_seenBy cX4_seenBy 4 (some .int)) ({ frames := 0, cells := 0, slots := 0, locals := 0 }) [.ref a, .int tu] [eO a 4 [.ref o.sa, .ref o.pa, .ref o.ha, .ref o.xa, .int o.pn, .int o.ru, .ref o.ta, .int o.ty, .int o.sp, .int o.fr, .int o.re, .int o.ca, .int o.os, .int o.od, .ref o.na], eIA E o.sa 311 f] (fun w Γ => w = some (.int (gSeenS st tu)) ∧ Γ = [eMO a o, eIA E o.sa 311 f]) := by
  refine eStart (cc := cX4_seenBy) (nL := 4) (L := [some (.ref a), some (.int tu), none, none]) hl (by decide) rfl (List.forall_mem_cons.mpr ⟨rfl, (List.forall_mem_cons.mpr ⟨rfl, (fun _ h => absurd h List.not_mem_nil)⟩)⟩) (Nat.le_of_ble_eq_true rfl) ?_
  intro x rs C
  show eZ x E (eQ x E (fun w Γ => w = some (.int (gSeenS st tu)) ∧ Γ = [eMO a o, eIA E o.sa 311 f]) rs) [eO a 4 [.ref o.sa, .ref o.pa, .ref o.ha, .ref o.xa, .int o.pn, .int o.ru, .ref o.ta, .int o.ty, .int o.sp, .int o.fr, .int o.re, .int o.ca, .int o.os, .int o.od, .ref o.na], eIA E o.sa 311 f, rs] 0 [some (.ref a), some (.int tu), none, none] [] 0 0
  generalize hQ_ : eQ x E (fun w Γ => w = some (.int (gSeenS st tu)) ∧ Γ = [eMO a o, eIA E o.sa 311 f]) rs = Q_
  have hst := gWfS_0 hS
  refine z_iconst (v := 0) C dX4_seenBy_0 (by decide) ?_
  refine z_istore_n (L2 := [some (.ref a), some (.int tu), some (.int 0), none]) C dX4_seenBy_1 rfl (Nat.le_of_ble_eq_true rfl) rfl ?_
  refine z_iconst (v := 0) C dX4_seenBy_2 (by decide) ?_
  refine z_istore_n (L2 := [some (.ref a), some (.int tu), some (.int 0), some (.int 0)]) C dX4_seenBy_3 rfl (Nat.le_of_ble_eq_true rfl) rfl ?_
  have K : ∀ (d i : Nat), i + d = nN (st 0) → eZ x E Q_ [eO a 4 [.ref o.sa, .ref o.pa, .ref o.ha, .ref o.xa, .int o.pn, .int o.ru, .ref o.ta, .int o.ty, .int o.sp, .int o.fr, .int o.re, .int o.ca, .int o.os, .int o.od, .ref o.na], eIA E o.sa 311 f, rs] 4 [some (.ref a), some (.int tu), some (.int (gSeenL tu i)), some (.int (nI i))] [] 0 0 := by
    intro d
    induction d with
    | zero =>
        intro i hi
        refine z_iload_n C dX4_seenBy_4 rfl rfl ?_
        refine z_aload_n C dX4_seenBy_5 rfl rfl ?_
        refine z_get eK4 0 0 C dX4_seenBy_6 rfl rfl q1671 (eSame1 rfl) (by decide) rfl ?_
        refine z_sipush (v := 307) C dX4_seenBy_9 (by decide) ?_
        refine z_iald (m := 307) (v := st 0) 1 C dX4_seenBy_12 rfl rfl (by omega) (by decide) (RS 0 (by decide)) ?_
        refine z_icmp_ge 33 C dX4_seenBy_13 (by decide) (fun h_ => ?_) (fun h_ => absurd h_ (absurd (by rw [hst.1, show i = nN (st 0) by omega]; exact Int32.le_refl _) h_))
        refine z_iload_n C dX4_seenBy_33 rfl rfl ?_
        subst hQ_
        exact z_ret (Γ := [eO a 4 [.ref o.sa, .ref o.pa, .ref o.ha, .ref o.xa, .int o.pn, .int o.ru, .ref o.ta, .int o.ty, .int o.sp, .int o.fr, .int o.re, .int o.ca, .int o.os, .int o.od, .ref o.na], eIA E o.sa 311 f]) C dX4_seenBy_34 rfl rfl (Nat.le_of_ble_eq_true rfl) (Nat.le_of_ble_eq_true rfl) ⟨by rw [show i = nN (st 0) by omega]; rfl, rfl⟩
    | succ d ih =>
        intro i hi
        refine z_iload_n C dX4_seenBy_4 rfl rfl ?_
        refine z_aload_n C dX4_seenBy_5 rfl rfl ?_
        refine z_get eK4 0 0 C dX4_seenBy_6 rfl rfl q1671 (eSame1 rfl) (by decide) rfl ?_
        refine z_sipush (v := 307) C dX4_seenBy_9 (by decide) ?_
        refine z_iald (m := 307) (v := st 0) 1 C dX4_seenBy_12 rfl rfl (by omega) (by decide) (RS 0 (by decide)) ?_
        refine z_icmp_ge 33 C dX4_seenBy_13 (by decide) (fun h_ => absurd h_ (by rw [hst.1]; exact nI_ge (by omega) (by omega))) (fun h_ => ?_)
        refine z_iload_n C dX4_seenBy_16 rfl rfl ?_
        refine z_iconst (v := 1) C dX4_seenBy_17 (by decide) ?_
        refine z_iload_n C dX4_seenBy_18 rfl rfl ?_
        refine z_iload_n C dX4_seenBy_19 rfl rfl ?_
        refine z_imul (w := (nI i) * tu) C dX4_seenBy_20 rfl ?_
        refine z_bipush (v := 8) C dX4_seenBy_21 (by decide) ?_
        refine z_irem (w := ((nI i) * tu) - ((nI i) * tu) / 8 * 8) C dX4_seenBy_23 (by decide) rfl ?_
        refine z_ishl (w := 1 <<< ((((nI i) * tu) - ((nI i) * tu) / 8 * 8) &&& 31)) C dX4_seenBy_24 rfl ?_
        refine z_ior (w := gSeenL tu (i + 1)) C dX4_seenBy_25 rfl ?_
        refine z_istore_n (L2 := [some (.ref a), some (.int tu), some (.int (gSeenL tu (i + 1))), some (.int (nI i))]) C dX4_seenBy_26 rfl (Nat.le_of_ble_eq_true rfl) rfl ?_
        refine z_iinc (v := nI (i + 1)) (L2 := [some (.ref a), some (.int tu), some (.int (gSeenL tu (i + 1))), some (.int (nI (i + 1)))]) C dX4_seenBy_27 rfl (nI_1 i) rfl ?_
        refine z_goto 4 C dX4_seenBy_30 (by decide) ?_
        exact ih (i + 1) (by omega)
  exact K (nN (st 0)) 0 (by omega)

set_option maxHeartbeats 4000000 in
theorem m_Mseen {l : Launch} (hl : l.stackTraces = false) (E : eEn) (a : Nat) (o : Mo) (f : Nat → Int32) (st : Nat → Int32) (RS : rS f st) (hS : gWfS st) (N : Nat) (hN4 : N < 4) (v : Lv) (gs : List Eg) (R : rL1 f N v gs)  : eMet l E yX4_seen (ws_ yX4_seen cX4_seen 2 (some .int)) ({ frames := 1, cells := 0, slots := 0, locals := 23 }) [.ref a, .int (nI N)] [eO a 4 [.ref o.sa, .ref o.pa, .ref o.ha, .ref o.xa, .int o.pn, .int o.ru, .ref o.ta, .int o.ty, .int o.sp, .int o.fr, .int o.re, .int o.ca, .int o.os, .int o.od, .ref o.na], eIA E o.sa 311 f] (fun w Γ => w = some (.int (gSeenS st v.tu)) ∧ Γ = [eMO a o, eIA E o.sa 311 f]) := by
  refine eStart (cc := cX4_seen) (nL := 2) (L := [some (.ref a), some (.int (nI N))]) hl (by decide) rfl (List.forall_mem_cons.mpr ⟨rfl, (List.forall_mem_cons.mpr ⟨rfl, (fun _ h => absurd h List.not_mem_nil)⟩)⟩) (Nat.le_of_ble_eq_true rfl) ?_
  intro x rs C
  show eZ x E (eQ x E (fun w Γ => w = some (.int (gSeenS st v.tu)) ∧ Γ = [eMO a o, eIA E o.sa 311 f]) rs) [eO a 4 [.ref o.sa, .ref o.pa, .ref o.ha, .ref o.xa, .int o.pn, .int o.ru, .ref o.ta, .int o.ty, .int o.sp, .int o.fr, .int o.re, .int o.ca, .int o.os, .int o.od, .ref o.na], eIA E o.sa 311 f, rs] 0 [some (.ref a), some (.int (nI N))] [] 0 0
  generalize hQ_ : eQ x E (fun w Γ => w = some (.int (gSeenS st v.tu)) ∧ Γ = [eMO a o, eIA E o.sa 311 f]) rs = Q_
  refine z_aload_n C dX4_seen_0 rfl rfl ?_
  refine z_aload_n C dX4_seen_1 rfl rfl ?_
  refine z_get eK4 0 0 C dX4_seen_2 rfl rfl q1671 (eSame1 rfl) (by decide) rfl ?_
  refine z_iload_n C dX4_seen_5 rfl rfl ?_
  refine z_callS (As := [.int (nI N)]) (rest := [.ref o.sa, .ref a]) (Δ := [eO a 4 [.ref o.sa, .ref o.pa, .ref o.ha, .ref o.xa, .int o.pn, .int o.ru, .ref o.ta, .int o.ty, .int o.sp, .int o.fr, .int o.re, .int o.ca, .int o.os, .int o.od, .ref o.na], eIA E o.sa 311 f, rs]) [] [0, 1, 2] 1 (m_MlaneAt hl E N) C dX4_seen_6 rfl rfl rfl q1668 q1669 q67 q1670 (by decide +kernel) rfl (ePm 3 rfl (by decide +kernel)) rfl rfl ⟨Nat.le_of_ble_eq_true rfl, Nat.le_of_ble_eq_true rfl⟩ (Nat.le_trans (eSm rfl (eSm rfl eS0)) (Nat.le_of_ble_eq_true rfl)) ⟨Nat.le_of_ble_eq_true rfl, Nat.le_of_ble_eq_true rfl⟩ (fun v_ Γ_ hp_ => ?_)
  obtain ⟨rfl, rfl⟩ := hp_
  show eZ x E _ [eO a 4 [.ref o.sa, .ref o.pa, .ref o.ha, .ref o.xa, .int o.pn, .int o.ru, .ref o.ta, .int o.ty, .int o.sp, .int o.fr, .int o.re, .int o.ca, .int o.os, .int o.od, .ref o.na], eIA E o.sa 311 f, rs] 9 [some (.ref a), some (.int (nI N))] [.int (nI (192 + 6 * N)), .ref o.sa, .ref a] 0 0
  refine z_iconst (v := 2) C dX4_seen_9 (by decide) ?_
  refine z_iadd (w := nI (192 + 6 * N + 2)) C dX4_seen_10 (nI_add (192 + 6 * N) 2) ?_
  refine z_iald (m := (192 + 6 * N + 2)) (v := v.tu) 1 C dX4_seen_11 rfl rfl (by omega) (by decide) (R.2.1 2 (by decide) (by decide)) ?_
  refine z_callV (r := (RX4, TX4, 15)) (As := [.int v.tu]) (rest := []) (Δ := [rs]) [0, 1] [2] 1 (m_MseenBy hl E a o f st RS hS v.tu) C dX4_seen_12 rfl rfl (eIn (i := 0) rfl List.mem_cons_self) rfl rfl q1785 q1787 qs35 q67 q1788 (by decide +kernel) rfl (ePm 3 rfl (by decide +kernel)) rfl rfl ⟨Nat.le_of_ble_eq_true rfl, Nat.le_of_ble_eq_true rfl⟩ (Nat.le_trans eS0 (Nat.le_of_ble_eq_true rfl)) ⟨Nat.le_of_ble_eq_true rfl, Nat.le_of_ble_eq_true rfl⟩ (fun v_ Γ_ hp_ => ?_)
  obtain ⟨rfl, rfl⟩ := hp_
  show eZ x E _ [eO a 4 [.ref o.sa, .ref o.pa, .ref o.ha, .ref o.xa, .int o.pn, .int o.ru, .ref o.ta, .int o.ty, .int o.sp, .int o.fr, .int o.re, .int o.ca, .int o.os, .int o.od, .ref o.na], eIA E o.sa 311 f, rs] 15 [some (.ref a), some (.int (nI N))] [.int (gSeenS st v.tu)] 0 0
  subst hQ_
  exact z_ret (Γ := [eO a 4 [.ref o.sa, .ref o.pa, .ref o.ha, .ref o.xa, .int o.pn, .int o.ru, .ref o.ta, .int o.ty, .int o.sp, .int o.fr, .int o.re, .int o.ca, .int o.os, .int o.od, .ref o.na], eIA E o.sa 311 f]) C dX4_seen_15 rfl rfl (Nat.le_of_ble_eq_true rfl) (Nat.le_of_ble_eq_true rfl) ⟨rfl, rfl⟩

set_option maxHeartbeats 4000000 in
theorem m_Mbits {l : Launch} (hl : l.stackTraces = false) (E : eEn) (k : Nat) (hk : k < 256) : eMet l E yX4_bits (ws_ yX4_bits cX4_bits 3 (some .int)) ({ frames := 0, cells := 0, slots := 0, locals := 0 }) [.int (nI k)] [] (fun w Γ => w = some (.int (gBits (nI k))) ∧ Γ = []) := by
  refine eStart (cc := cX4_bits) (nL := 3) (L := [some (.int (nI k)), none, none]) hl (by decide) rfl (List.forall_mem_cons.mpr ⟨rfl, (fun _ h => absurd h List.not_mem_nil)⟩) (Nat.le_of_ble_eq_true rfl) ?_
  intro x rs C
  show eZ x E (eQ x E (fun w Γ => w = some (.int (gBits (nI k))) ∧ Γ = []) rs) [rs] 0 [some (.int (nI k)), none, none] [] 0 0
  generalize hQ_ : eQ x E (fun w Γ => w = some (.int (gBits (nI k))) ∧ Γ = []) rs = Q_
  refine z_iconst (v := 0) C dX4_bits_0 (by decide) ?_
  refine z_istore_n (L2 := [some (.int (nI k)), some (.int 0), none]) C dX4_bits_1 rfl (Nat.le_of_ble_eq_true rfl) rfl ?_
  refine z_iload_n C dX4_bits_2 rfl rfl ?_
  refine z_istore_n (L2 := [some (.int (nI k)), some (.int 0), some (.int (nI k))]) C dX4_bits_3 rfl (Nat.le_of_ble_eq_true rfl) rfl ?_
  refine z_forget (L' := [none, some (.int 0), some (.int (nI k))]) ⟨Or.inl rfl, Or.inr rfl, Or.inr rfl, trivial⟩ ?_
  have K : ∀ (d m : Nat) (c : Int32), m < 2 ^ d → m < 256 → c + nI (mB d m) = gBits (nI k) → eZ x E Q_ [rs] 4 [none, some (.int c), some (.int (nI m))] [] 0 0 := by
    intro d
    induction d with
    | zero =>
        intro m c hm h256 hR
        refine z_iload_n C dX4_bits_4 rfl rfl ?_
        obtain rfl : m = 0 := by rw [Nat.pow_zero] at hm; omega
        refine z_if_le 21 C dX4_bits_5 (by decide) (fun h_ => ?_) (fun h_ => absurd h_ (absurd (by decide) h_))
        refine z_iload_n C dX4_bits_21 rfl rfl ?_
        subst hQ_
        exact z_ret (Γ := []) C dX4_bits_22 rfl rfl (Nat.le_of_ble_eq_true rfl) (Nat.le_of_ble_eq_true rfl) ⟨by rw [← hR]; show _ = some (Value.int (c + 0)); rw [Int32.add_zero], rfl⟩
    | succ d ih =>
        intro m c hm h256 hR
        refine z_iload_n C dX4_bits_4 rfl rfl ?_
        refine z_if_le 21 C dX4_bits_5 (by decide) (fun h1 => ?_) (fun h1 => ?_)
        · obtain rfl : m = 0 := by rcases Nat.eq_zero_or_pos m with h | h; exact h; exact absurd h1 (nI_nle h (by omega))
          refine z_iload_n C dX4_bits_21 rfl rfl ?_
          subst hQ_
          exact z_ret (Γ := []) C dX4_bits_22 rfl rfl (Nat.le_of_ble_eq_true rfl) (Nat.le_of_ble_eq_true rfl) ⟨by rw [← hR, mB_0]; show _ = some (Value.int (c + 0)); rw [Int32.add_zero], rfl⟩
        · refine z_iload_n C dX4_bits_8 rfl rfl ?_
          refine z_iload_n C dX4_bits_9 rfl rfl ?_
          refine z_iconst (v := 2) C dX4_bits_10 (by decide) ?_
          refine z_irem (w := nI (m % 2)) C dX4_bits_11 (by decide) (nI_m2 m h256) ?_
          refine z_iadd (w := c + (nI (m % 2))) C dX4_bits_12 rfl ?_
          refine z_istore_n (L2 := [none, some (.int (c + (nI (m % 2)))), some (.int (nI m))]) C dX4_bits_13 rfl (Nat.le_of_ble_eq_true rfl) rfl ?_
          refine z_iload_n C dX4_bits_14 rfl rfl ?_
          refine z_iconst (v := 2) C dX4_bits_15 (by decide) ?_
          refine z_idiv (w := nI (m / 2)) C dX4_bits_16 (by decide) (nI_d2 m h256) ?_
          refine z_istore_n (L2 := [none, some (.int (c + (nI (m % 2)))), some (.int (nI (m / 2)))]) C dX4_bits_17 rfl (Nat.le_of_ble_eq_true rfl) rfl ?_
          refine z_goto 4 C dX4_bits_18 (by decide) ?_
          exact ih (m / 2) _ (by rw [Nat.pow_succ] at hm; omega) (by omega) (by rw [← hR, mB, ← nI_add, Int32.add_assoc])
  exact K 8 k 0 (by omega) hk (by rw [Int32.zero_add]; exact (mB_8 k hk).symm)

set_option maxHeartbeats 4000000 in
theorem m_MspotsOf {l : Launch} (hl : l.stackTraces = false) (E : eEn) (a : Nat) (o : Mo) (f : Nat → Int32) (N : Nat) (hN4 : N < 4) (v : Lv) (gs : List Eg) (R : rL1 f N v gs) (hv : gWfL v) (g : Eg) (hg : gs[0]? = some g) (hgo : gEgOk g = true)  : eMet l E yX4_spotsOf (ws_ yX4_spotsOf cX4_spotsOf 2 (some .int)) ({ frames := 1, cells := 0, slots := 0, locals := 21 }) [.ref a, .int (nI N)] [eO a 4 [.ref o.sa, .ref o.pa, .ref o.ha, .ref o.xa, .int o.pn, .int o.ru, .ref o.ta, .int o.ty, .int o.sp, .int o.fr, .int o.re, .int o.ca, .int o.os, .int o.od, .ref o.na], eIA E o.sa 311 f] (fun w Γ => w = some (.int (gStE v g).sp) ∧ Γ = [eMO a o, eIA E o.sa 311 f]) := by
  refine eStart (cc := cX4_spotsOf) (nL := 2) (L := [some (.ref a), some (.int (nI N))]) hl (by decide) rfl (List.forall_mem_cons.mpr ⟨rfl, (List.forall_mem_cons.mpr ⟨rfl, (fun _ h => absurd h List.not_mem_nil)⟩)⟩) (Nat.le_of_ble_eq_true rfl) ?_
  intro x rs C
  show eZ x E (eQ x E (fun w Γ => w = some (.int (gStE v g).sp) ∧ Γ = [eMO a o, eIA E o.sa 311 f]) rs) [eO a 4 [.ref o.sa, .ref o.pa, .ref o.ha, .ref o.xa, .int o.pn, .int o.ru, .ref o.ta, .int o.ty, .int o.sp, .int o.fr, .int o.re, .int o.ca, .int o.os, .int o.od, .ref o.na], eIA E o.sa 311 f, rs] 0 [some (.ref a), some (.int (nI N))] [] 0 0
  generalize hQ_ : eQ x E (fun w Γ => w = some (.int (gStE v g).sp) ∧ Γ = [eMO a o, eIA E o.sa 311 f]) rs = Q_
  refine z_aload_n C dX4_spotsOf_0 rfl rfl ?_
  refine z_get eK4 0 0 C dX4_spotsOf_1 rfl rfl q1671 (eSame1 rfl) (by decide) rfl ?_
  refine z_iload_n C dX4_spotsOf_4 rfl rfl ?_
  refine z_iconst (v := 0) C dX4_spotsOf_5 (by decide) ?_
  refine z_callS (As := [.int (nI N), .int 0]) (rest := [.ref o.sa]) (Δ := [eO a 4 [.ref o.sa, .ref o.pa, .ref o.ha, .ref o.xa, .int o.pn, .int o.ru, .ref o.ta, .int o.ty, .int o.sp, .int o.fr, .int o.re, .int o.ca, .int o.os, .int o.od, .ref o.na], eIA E o.sa 311 f, rs]) [] [0, 1, 2] 2 (m_MeggAt hl E N 0) C dX4_spotsOf_6 rfl rfl rfl q1737 q1738 q67 q1739 (by decide +kernel) rfl (ePm 3 rfl (by decide +kernel)) rfl rfl ⟨Nat.le_of_ble_eq_true rfl, Nat.le_of_ble_eq_true rfl⟩ (Nat.le_trans (eSm rfl eS0) (Nat.le_of_ble_eq_true rfl)) ⟨Nat.le_of_ble_eq_true rfl, Nat.le_of_ble_eq_true rfl⟩ (fun v_ Γ_ hp_ => ?_)
  obtain ⟨rfl, rfl⟩ := hp_
  show eZ x E _ [eO a 4 [.ref o.sa, .ref o.pa, .ref o.ha, .ref o.xa, .int o.pn, .int o.ru, .ref o.ta, .int o.ty, .int o.sp, .int o.fr, .int o.re, .int o.ca, .int o.os, .int o.od, .ref o.na], eIA E o.sa 311 f, rs] 9 [some (.ref a), some (.int (nI N))] [.int (nI (48 * N + 6 * 0)), .ref o.sa] 0 0
  refine z_iconst (v := 2) C dX4_spotsOf_9 (by decide) ?_
  refine z_iadd (w := nI (48 * N + 6 * 0 + 2)) C dX4_spotsOf_10 (nI_add (48 * N + 6 * 0) 2) ?_
  refine z_iald (m := (48 * N + 6 * 0 + 2)) (v := g.sp) 1 C dX4_spotsOf_11 rfl rfl (by omega) (by decide) (R.2.2 0 g hg 2 (by decide)) ?_
  refine z_aload_n C dX4_spotsOf_12 rfl rfl ?_
  refine z_get eK4 0 0 C dX4_spotsOf_13 rfl rfl q1671 (eSame1 rfl) (by decide) rfl ?_
  refine z_iload_n C dX4_spotsOf_16 rfl rfl ?_
  refine z_callS (As := [.int (nI N)]) (rest := [.ref o.sa, .int g.sp]) (Δ := [eO a 4 [.ref o.sa, .ref o.pa, .ref o.ha, .ref o.xa, .int o.pn, .int o.ru, .ref o.ta, .int o.ty, .int o.sp, .int o.fr, .int o.re, .int o.ca, .int o.os, .int o.od, .ref o.na], eIA E o.sa 311 f, rs]) [] [0, 1, 2] 1 (m_MlaneAt hl E N) C dX4_spotsOf_17 rfl rfl rfl q1668 q1669 q67 q1670 (by decide +kernel) rfl (ePm 3 rfl (by decide +kernel)) rfl rfl ⟨Nat.le_of_ble_eq_true rfl, Nat.le_of_ble_eq_true rfl⟩ (Nat.le_trans (eSm rfl (eSm rfl eS0)) (Nat.le_of_ble_eq_true rfl)) ⟨Nat.le_of_ble_eq_true rfl, Nat.le_of_ble_eq_true rfl⟩ (fun v_ Γ_ hp_ => ?_)
  obtain ⟨rfl, rfl⟩ := hp_
  show eZ x E _ [eO a 4 [.ref o.sa, .ref o.pa, .ref o.ha, .ref o.xa, .int o.pn, .int o.ru, .ref o.ta, .int o.ty, .int o.sp, .int o.fr, .int o.re, .int o.ca, .int o.os, .int o.od, .ref o.na], eIA E o.sa 311 f, rs] 20 [some (.ref a), some (.int (nI N))] [.int (nI (192 + 6 * N)), .ref o.sa, .int g.sp] 0 0
  refine z_iconst (v := 3) C dX4_spotsOf_20 (by decide) ?_
  refine z_iadd (w := nI (192 + 6 * N + 3)) C dX4_spotsOf_21 (nI_add (192 + 6 * N) 3) ?_
  refine z_iald (m := (192 + 6 * N + 3)) (v := v.st) 1 C dX4_spotsOf_22 rfl rfl (by omega) (by decide) (R.2.1 3 (by decide) (by decide)) ?_
  suffices J_ : eZ x E Q_ [eO a 4 [.ref o.sa, .ref o.pa, .ref o.ha, .ref o.xa, .int o.pn, .int o.ru, .ref o.ta, .int o.ty, .int o.sp, .int o.fr, .int o.re, .int o.ca, .int o.os, .int o.od, .ref o.na], eIA E o.sa 311 f, rs] 31 [some (.ref a), some (.int (nI N))] [.int (if 0 < v.st then 1 else 0), .int g.sp] 0 0 by
    refine z_if_le 30 C dX4_spotsOf_23 (by decide) (fun h_ => ?_) (fun h_ => ?_)
    · refine z_iconst (v := 0) C dX4_spotsOf_30 (by decide) ?_
      refine z_is (w := if 0 < v.st then 1 else 0) (if_neg (Int32.not_lt.mpr h_)).symm ?_
      exact J_
    · refine z_iconst (v := 1) C dX4_spotsOf_26 (by decide) ?_
      refine z_goto 31 C dX4_spotsOf_27 (by decide) ?_
      refine z_is (w := if 0 < v.st then 1 else 0) (if_pos (Int32.not_le.mp h_)).symm ?_
      exact J_
  refine z_ior (w := (gStE v g).sp) C dX4_spotsOf_31 rfl ?_
  subst hQ_
  exact z_ret (Γ := [eO a 4 [.ref o.sa, .ref o.pa, .ref o.ha, .ref o.xa, .int o.pn, .int o.ru, .ref o.ta, .int o.ty, .int o.sp, .int o.fr, .int o.re, .int o.ca, .int o.os, .int o.od, .ref o.na], eIA E o.sa 311 f]) C dX4_spotsOf_32 rfl rfl (Nat.le_of_ble_eq_true rfl) (Nat.le_of_ble_eq_true rfl) ⟨rfl, rfl⟩

set_option maxHeartbeats 4000000 in
theorem m_MisSB {l : Launch} (hl : l.stackTraces = false) (E : eEn) (a : Nat) (o : Mo) (f : Nat → Int32) (st : Nat → Int32) (RS : rS f st) (hS : gWfS st) (N : Nat) (hN4 : N < 4) (v : Lv) (gs : List Eg) (R : rL1 f N v gs) (hv : gWfL v) (g : Eg) (hg : gs[0]? = some g) (hgo : gEgOk g = true)  : eMet l E yX4_isSeenBroken (ws_ yX4_isSeenBroken cX4_isSeenBroken 3 (some .boolean)) ({ frames := 2, cells := 0, slots := 0, locals := 44 }) [.ref a, .int (nI N)] [eO a 4 [.ref o.sa, .ref o.pa, .ref o.ha, .ref o.xa, .int o.pn, .int o.ru, .ref o.ta, .int o.ty, .int o.sp, .int o.fr, .int o.re, .int o.ca, .int o.os, .int o.od, .ref o.na], eIA E o.sa 311 f] (fun w Γ => w = some (.int (eB (gMSB st v g))) ∧ Γ = [eMO a o, eIA E o.sa 311 f]) := by
  refine eStart (cc := cX4_isSeenBroken) (nL := 3) (L := [some (.ref a), some (.int (nI N)), none]) hl (by decide) rfl (List.forall_mem_cons.mpr ⟨rfl, (List.forall_mem_cons.mpr ⟨rfl, (fun _ h => absurd h List.not_mem_nil)⟩)⟩) (Nat.le_of_ble_eq_true rfl) ?_
  intro x rs C
  show eZ x E (eQ x E (fun w Γ => w = some (.int (eB (gMSB st v g))) ∧ Γ = [eMO a o, eIA E o.sa 311 f]) rs) [eO a 4 [.ref o.sa, .ref o.pa, .ref o.ha, .ref o.xa, .int o.pn, .int o.ru, .ref o.ta, .int o.ty, .int o.sp, .int o.fr, .int o.re, .int o.ca, .int o.os, .int o.od, .ref o.na], eIA E o.sa 311 f, rs] 0 [some (.ref a), some (.int (nI N)), none] [] 0 0
  generalize hQ_ : eQ x E (fun w Γ => w = some (.int (eB (gMSB st v g))) ∧ Γ = [eMO a o, eIA E o.sa 311 f]) rs = Q_
  refine z_aload_n C dX4_isSeenBroken_0 rfl rfl ?_
  refine z_get eK4 0 0 C dX4_isSeenBroken_1 rfl rfl q1671 (eSame1 rfl) (by decide) rfl ?_
  refine z_iload_n C dX4_isSeenBroken_4 rfl rfl ?_
  refine z_iconst (v := 0) C dX4_isSeenBroken_5 (by decide) ?_
  refine z_callS (As := [.int (nI N), .int 0]) (rest := [.ref o.sa]) (Δ := [eO a 4 [.ref o.sa, .ref o.pa, .ref o.ha, .ref o.xa, .int o.pn, .int o.ru, .ref o.ta, .int o.ty, .int o.sp, .int o.fr, .int o.re, .int o.ca, .int o.os, .int o.od, .ref o.na], eIA E o.sa 311 f, rs]) [] [0, 1, 2] 2 (m_MeggAt hl E N 0) C dX4_isSeenBroken_6 rfl rfl rfl q1737 q1738 q67 q1739 (by decide +kernel) rfl (ePm 3 rfl (by decide +kernel)) rfl rfl ⟨Nat.le_of_ble_eq_true rfl, Nat.le_of_ble_eq_true rfl⟩ (Nat.le_trans (eSm rfl eS0) (Nat.le_of_ble_eq_true rfl)) ⟨Nat.le_of_ble_eq_true rfl, Nat.le_of_ble_eq_true rfl⟩ (fun v_ Γ_ hp_ => ?_)
  obtain ⟨rfl, rfl⟩ := hp_
  show eZ x E _ [eO a 4 [.ref o.sa, .ref o.pa, .ref o.ha, .ref o.xa, .int o.pn, .int o.ru, .ref o.ta, .int o.ty, .int o.sp, .int o.fr, .int o.re, .int o.ca, .int o.os, .int o.od, .ref o.na], eIA E o.sa 311 f, rs] 9 [some (.ref a), some (.int (nI N)), none] [.int (nI (48 * N + 6 * 0)), .ref o.sa] 0 0
  refine z_iconst (v := 4) C dX4_isSeenBroken_9 (by decide) ?_
  refine z_iadd (w := nI (48 * N + 6 * 0 + 4)) C dX4_isSeenBroken_10 (nI_add (48 * N + 6 * 0) 4) ?_
  refine z_iald (m := (48 * N + 6 * 0 + 4)) (v := g.c + 1) 1 C dX4_isSeenBroken_11 rfl rfl (by omega) (by decide) (R.2.2 0 g hg 4 (by decide)) ?_
  refine z_istore_n (L2 := [some (.ref a), some (.int (nI N)), some (.int (g.c + 1))]) C dX4_isSeenBroken_12 rfl (Nat.le_of_ble_eq_true rfl) rfl ?_
  refine z_iload_n C dX4_isSeenBroken_13 rfl rfl ?_
  refine z_if_le 36 C dX4_isSeenBroken_14 (by decide) (fun h1 => ?_) (fun h1 => ?_)
  · have hb : gMSB st v g = false := by unfold gMSB gCrk; rw [decide_eq_false (not_not_intro ((gCrk_le hgo).mp h1))]; rfl
    refine z_iconst (v := 0) C dX4_isSeenBroken_36 (by decide) ?_
    refine z_is (w := eB (gMSB st v g)) (by rw [hb]; rfl) ?_
    subst hQ_
    exact z_ret (Γ := [eO a 4 [.ref o.sa, .ref o.pa, .ref o.ha, .ref o.xa, .int o.pn, .int o.ru, .ref o.ta, .int o.ty, .int o.sp, .int o.fr, .int o.re, .int o.ca, .int o.os, .int o.od, .ref o.na], eIA E o.sa 311 f]) C dX4_isSeenBroken_37 rfl (eB_nar _) (Nat.le_of_ble_eq_true rfl) (Nat.le_of_ble_eq_true rfl) ⟨rfl, rfl⟩
  · have hc1 : gCrk g = true := decide_eq_true (fun h => h1 ((gCrk_le hgo).mpr h))
    refine z_aload_n C dX4_isSeenBroken_17 rfl rfl ?_
    refine z_iload_n C dX4_isSeenBroken_18 rfl rfl ?_
    refine z_callV (r := (RX4, TX4, 15)) (As := [.int (nI N)]) (rest := []) (Δ := [rs]) [0, 1] [2] 1 (m_Mseen hl E a o f st RS hS N hN4 v gs R) C dX4_isSeenBroken_19 rfl rfl (eIn (i := 0) rfl List.mem_cons_self) rfl rfl q1781 q1783 qs34 q67 q1784 (by decide +kernel) rfl (ePm 3 rfl (by decide +kernel)) rfl rfl ⟨Nat.le_of_ble_eq_true rfl, Nat.le_of_ble_eq_true rfl⟩ (Nat.le_trans eS0 (Nat.le_of_ble_eq_true rfl)) ⟨Nat.le_of_ble_eq_true rfl, Nat.le_of_ble_eq_true rfl⟩ (fun v_ Γ_ hp_ => ?_)
    obtain ⟨rfl, rfl⟩ := hp_
    show eZ x E _ [eO a 4 [.ref o.sa, .ref o.pa, .ref o.ha, .ref o.xa, .int o.pn, .int o.ru, .ref o.ta, .int o.ty, .int o.sp, .int o.fr, .int o.re, .int o.ca, .int o.os, .int o.od, .ref o.na], eIA E o.sa 311 f, rs] 22 [some (.ref a), some (.int (nI N)), some (.int (g.c + 1))] [.int (gSeenS st v.tu)] 0 0
    refine z_iload_n C dX4_isSeenBroken_22 rfl rfl ?_
    refine z_iconst (v := 1) C dX4_isSeenBroken_23 (by decide) ?_
    refine z_isub (w := g.c) C dX4_isSeenBroken_24 (Int32.add_sub_cancel _ _) ?_
    refine z_ishr (w := (gSeenS st v.tu) >>> (g.c &&& 31)) C dX4_isSeenBroken_25 rfl ?_
    refine z_iconst (v := 1) C dX4_isSeenBroken_26 (by decide) ?_
    refine z_iand (w := ((gSeenS st v.tu) >>> (g.c &&& 31)) &&& 1) C dX4_isSeenBroken_27 rfl ?_
    refine z_iconst (v := 1) C dX4_isSeenBroken_28 (by decide) ?_
    refine z_icmp_ne 36 C dX4_isSeenBroken_29 (by decide) (fun h2 => ?_) (fun h2 => ?_)
    · have hb : gMSB st v g = false := by unfold gMSB; rw [hc1, Bool.true_and]; exact decide_eq_false h2
      refine z_iconst (v := 0) C dX4_isSeenBroken_36 (by decide) ?_
      refine z_is (w := eB (gMSB st v g)) (by rw [hb]; rfl) ?_
      subst hQ_
      exact z_ret (Γ := [eO a 4 [.ref o.sa, .ref o.pa, .ref o.ha, .ref o.xa, .int o.pn, .int o.ru, .ref o.ta, .int o.ty, .int o.sp, .int o.fr, .int o.re, .int o.ca, .int o.os, .int o.od, .ref o.na], eIA E o.sa 311 f]) C dX4_isSeenBroken_37 rfl (eB_nar _) (Nat.le_of_ble_eq_true rfl) (Nat.le_of_ble_eq_true rfl) ⟨rfl, rfl⟩
    · have hb : gMSB st v g = true := by unfold gMSB; rw [hc1, Bool.true_and]; exact decide_eq_true h2
      refine z_iconst (v := 1) C dX4_isSeenBroken_32 (by decide) ?_
      refine z_goto 37 C dX4_isSeenBroken_33 (by decide) ?_
      refine z_is (w := eB (gMSB st v g)) (by rw [hb]; rfl) ?_
      subst hQ_
      exact z_ret (Γ := [eO a 4 [.ref o.sa, .ref o.pa, .ref o.ha, .ref o.xa, .int o.pn, .int o.ru, .ref o.ta, .int o.ty, .int o.sp, .int o.fr, .int o.re, .int o.ca, .int o.os, .int o.od, .ref o.na], eIA E o.sa 311 f]) C dX4_isSeenBroken_37 rfl (eB_nar _) (Nat.le_of_ble_eq_true rfl) (Nat.le_of_ble_eq_true rfl) ⟨rfl, rfl⟩

set_option maxHeartbeats 4000000 in
theorem m_Mbarred {l : Launch} (hl : l.stackTraces = false) (E : eEn) (a : Nat) (o : Mo) (f : Nat → Int32) (st : Nat → Int32) (RS : rS f st) (hS : gWfS st) (N : Nat) (hN4 : N < 4) (v : Lv) (gs : List Eg) (R : rL1 f N v gs) (hv : gWfL v) (hgs : ∀ g ∈ gs, gEgOk g = true) (h8 : gs.length ≤ 8) (li : Int32) : eMet l E yX4_barred (ws_ yX4_barred cX4_barred 3 (some .int)) ({ frames := 3, cells := 0, slots := 0, locals := 66 }) [.ref a, .int (nI N), .int li] [eO a 4 [.ref o.sa, .ref o.pa, .ref o.ha, .ref o.xa, .int o.pn, .int o.ru, .ref o.ta, .int o.ty, .int o.sp, .int o.fr, .int o.re, .int o.ca, .int o.os, .int o.od, .ref o.na], eIA E o.sa 311 f] (fun w Γ => w = some (.int (gMBar st v gs li)) ∧ Γ = [eMO a o, eIA E o.sa 311 f]) := by
  refine eStart (cc := cX4_barred) (nL := 3) (L := [some (.ref a), some (.int (nI N)), some (.int li)]) hl (by decide) rfl (List.forall_mem_cons.mpr ⟨rfl, (List.forall_mem_cons.mpr ⟨rfl, (List.forall_mem_cons.mpr ⟨rfl, (fun _ h => absurd h List.not_mem_nil)⟩)⟩)⟩) (Nat.le_of_ble_eq_true rfl) ?_
  intro x rs C
  show eZ x E (eQ x E (fun w Γ => w = some (.int (gMBar st v gs li)) ∧ Γ = [eMO a o, eIA E o.sa 311 f]) rs) [eO a 4 [.ref o.sa, .ref o.pa, .ref o.ha, .ref o.xa, .int o.pn, .int o.ru, .ref o.ta, .int o.ty, .int o.sp, .int o.fr, .int o.re, .int o.ca, .int o.os, .int o.od, .ref o.na], eIA E o.sa 311 f, rs] 0 [some (.ref a), some (.int (nI N)), some (.int li)] [] 0 0
  generalize hQ_ : eQ x E (fun w Γ => w = some (.int (gMBar st v gs li)) ∧ Γ = [eMO a o, eIA E o.sa 311 f]) rs = Q_
  refine z_aload_n C dX4_barred_0 rfl rfl ?_
  refine z_iload_n C dX4_barred_1 rfl rfl ?_
  refine z_callV (r := (RX4, TX4, 15)) (As := [.int (nI N)]) (rest := []) (Δ := [rs]) [0, 1] [2] 1 (m_Mmany hl E a o f N hN4 v gs R) C dX4_barred_2 rfl rfl (eIn (i := 0) rfl List.mem_cons_self) rfl rfl q1728 q1730 qs27 q67 q1731 (by decide +kernel) rfl (ePm 3 rfl (by decide +kernel)) rfl rfl ⟨Nat.le_of_ble_eq_true rfl, Nat.le_of_ble_eq_true rfl⟩ (Nat.le_trans eS0 (Nat.le_of_ble_eq_true rfl)) ⟨Nat.le_of_ble_eq_true rfl, Nat.le_of_ble_eq_true rfl⟩ (fun v_ Γ_ hp_ => ?_)
  obtain ⟨rfl, rfl⟩ := hp_
  show eZ x E _ [eO a 4 [.ref o.sa, .ref o.pa, .ref o.ha, .ref o.xa, .int o.pn, .int o.ru, .ref o.ta, .int o.ty, .int o.sp, .int o.fr, .int o.re, .int o.ca, .int o.os, .int o.od, .ref o.na], eIA E o.sa 311 f, rs] 5 [some (.ref a), some (.int (nI N)), some (.int li)] [.int (nI gs.length)] 0 0
  refine z_if_ne 10 C dX4_barred_5 (by decide) (fun h1 => ?_) (fun h1 => ?_)
  · obtain ⟨g, t, rfl⟩ : ∃ g t, gs = g :: t := by cases gs with | nil => exact absurd rfl h1 | cons g t => exact ⟨g, t, rfl⟩
    have hg : (g :: t)[0]? = some g := rfl
    have hgo := hgs g List.mem_cons_self
    have hB : gBar st (gWi v li) g = if li < g.sh then 2 else if gMSB st v g = true then 3 else 0 := gBar_M st (gWi v li) g
    refine z_iload_n C dX4_barred_10 rfl rfl ?_
    refine z_aload_n C dX4_barred_11 rfl rfl ?_
    refine z_get eK4 0 0 C dX4_barred_12 rfl rfl q1671 (eSame1 rfl) (by decide) rfl ?_
    refine z_iload_n C dX4_barred_15 rfl rfl ?_
    refine z_iconst (v := 0) C dX4_barred_16 (by decide) ?_
    refine z_callS (As := [.int (nI N), .int 0]) (rest := [.ref o.sa, .int li]) (Δ := [eO a 4 [.ref o.sa, .ref o.pa, .ref o.ha, .ref o.xa, .int o.pn, .int o.ru, .ref o.ta, .int o.ty, .int o.sp, .int o.fr, .int o.re, .int o.ca, .int o.os, .int o.od, .ref o.na], eIA E o.sa 311 f, rs]) [] [0, 1, 2] 2 (m_MeggAt hl E N 0) C dX4_barred_17 rfl rfl rfl q1737 q1738 q67 q1739 (by decide +kernel) rfl (ePm 3 rfl (by decide +kernel)) rfl rfl ⟨Nat.le_of_ble_eq_true rfl, Nat.le_of_ble_eq_true rfl⟩ (Nat.le_trans (eSm rfl (eSm rfl eS0)) (Nat.le_of_ble_eq_true rfl)) ⟨Nat.le_of_ble_eq_true rfl, Nat.le_of_ble_eq_true rfl⟩ (fun v_ Γ_ hp_ => ?_)
    obtain ⟨rfl, rfl⟩ := hp_
    show eZ x E _ [eO a 4 [.ref o.sa, .ref o.pa, .ref o.ha, .ref o.xa, .int o.pn, .int o.ru, .ref o.ta, .int o.ty, .int o.sp, .int o.fr, .int o.re, .int o.ca, .int o.os, .int o.od, .ref o.na], eIA E o.sa 311 f, rs] 20 [some (.ref a), some (.int (nI N)), some (.int li)] [.int (nI (48 * N + 6 * 0)), .ref o.sa, .int li] 0 0
    refine z_iconst (v := 1) C dX4_barred_20 (by decide) ?_
    refine z_iadd (w := nI (48 * N + 6 * 0 + 1)) C dX4_barred_21 (nI_add (48 * N + 6 * 0) 1) ?_
    refine z_iald (m := (48 * N + 6 * 0 + 1)) (v := g.sh) 1 C dX4_barred_22 rfl rfl (by omega) (by decide) (R.2.2 0 g hg 1 (by decide)) ?_
    refine z_icmp_ge 30 C dX4_barred_23 (by decide) (fun h2 => ?_) (fun h2 => ?_)
    · refine z_aload_n C dX4_barred_30 rfl rfl ?_
      refine z_iload_n C dX4_barred_31 rfl rfl ?_
      refine z_callV (r := (RX4, TX4, 15)) (As := [.int (nI N)]) (rest := []) (Δ := [rs]) [0, 1] [2] 1 (m_MisSB hl E a o f st RS hS N hN4 v (g :: t) R hv g hg hgo) C dX4_barred_32 rfl rfl (eIn (i := 0) rfl List.mem_cons_self) rfl rfl q1777 q1779 qs33 q67 q1780 (by decide +kernel) rfl (ePm 3 rfl (by decide +kernel)) rfl rfl ⟨Nat.le_of_ble_eq_true rfl, Nat.le_of_ble_eq_true rfl⟩ (Nat.le_trans eS0 (Nat.le_of_ble_eq_true rfl)) ⟨Nat.le_of_ble_eq_true rfl, Nat.le_of_ble_eq_true rfl⟩ (fun v_ Γ_ hp_ => ?_)
      obtain ⟨rfl, rfl⟩ := hp_
      show eZ x E _ [eO a 4 [.ref o.sa, .ref o.pa, .ref o.ha, .ref o.xa, .int o.pn, .int o.ru, .ref o.ta, .int o.ty, .int o.sp, .int o.fr, .int o.re, .int o.ca, .int o.os, .int o.od, .ref o.na], eIA E o.sa 311 f, rs] 35 [some (.ref a), some (.int (nI N)), some (.int li)] [.int (eB (gMSB st v g))] 0 0
      refine z_if_eq_B 42 C dX4_barred_35 (by decide) (fun h3 => ?_) (fun h3 => ?_)
      · refine z_iconst (v := 0) C dX4_barred_42 (by decide) ?_
        subst hQ_
        exact z_ret (Γ := [eO a 4 [.ref o.sa, .ref o.pa, .ref o.ha, .ref o.xa, .int o.pn, .int o.ru, .ref o.ta, .int o.ty, .int o.sp, .int o.fr, .int o.re, .int o.ca, .int o.os, .int o.od, .ref o.na], eIA E o.sa 311 f]) C dX4_barred_43 rfl rfl (Nat.le_of_ble_eq_true rfl) (Nat.le_of_ble_eq_true rfl) ⟨by show _ = some (Value.int (gBar st (gWi v li) g)); rw [hB, if_neg (Int32.not_lt.mpr h2), if_neg (by rw [h3]; decide)], rfl⟩
      · refine z_iconst (v := 3) C dX4_barred_38 (by decide) ?_
        refine z_goto 43 C dX4_barred_39 (by decide) ?_
        subst hQ_
        exact z_ret (Γ := [eO a 4 [.ref o.sa, .ref o.pa, .ref o.ha, .ref o.xa, .int o.pn, .int o.ru, .ref o.ta, .int o.ty, .int o.sp, .int o.fr, .int o.re, .int o.ca, .int o.os, .int o.od, .ref o.na], eIA E o.sa 311 f]) C dX4_barred_43 rfl rfl (Nat.le_of_ble_eq_true rfl) (Nat.le_of_ble_eq_true rfl) ⟨by show _ = some (Value.int (gBar st (gWi v li) g)); rw [hB, if_neg (Int32.not_lt.mpr h2), if_pos h3], rfl⟩
    · refine z_iconst (v := 2) C dX4_barred_26 (by decide) ?_
      refine z_goto 43 C dX4_barred_27 (by decide) ?_
      subst hQ_
      exact z_ret (Γ := [eO a 4 [.ref o.sa, .ref o.pa, .ref o.ha, .ref o.xa, .int o.pn, .int o.ru, .ref o.ta, .int o.ty, .int o.sp, .int o.fr, .int o.re, .int o.ca, .int o.os, .int o.od, .ref o.na], eIA E o.sa 311 f]) C dX4_barred_43 rfl rfl (Nat.le_of_ble_eq_true rfl) (Nat.le_of_ble_eq_true rfl) ⟨by show _ = some (Value.int (gBar st (gWi v li) g)); rw [hB, if_pos (Int32.not_le.mp h2)], rfl⟩
  · have h0 : gs = [] := by cases gs with | nil => rfl | cons g t => exact absurd h1 (nI_ne0 (by rw [List.length_cons]; omega) (by omega))
    refine z_iconst (v := 1) C dX4_barred_8 (by decide) ?_
    subst hQ_
    exact z_ret (Γ := [eO a 4 [.ref o.sa, .ref o.pa, .ref o.ha, .ref o.xa, .int o.pn, .int o.ru, .ref o.ta, .int o.ty, .int o.sp, .int o.fr, .int o.re, .int o.ca, .int o.os, .int o.od, .ref o.na], eIA E o.sa 311 f]) C dX4_barred_9 rfl rfl (Nat.le_of_ble_eq_true rfl) (Nat.le_of_ble_eq_true rfl) ⟨by rw [h0]; rfl, rfl⟩

set_option maxHeartbeats 4000000 in
theorem m_MgradeOf {l : Launch} (hl : l.stackTraces = false) (E : eEn) (a : Nat) (o : Mo) (f : Nat → Int32) (st : Nat → Int32) (RS : rS f st) (hS : gWfS st) (N : Nat) (hN4 : N < 4) (v : Lv) (gs : List Eg) (R : rL1 f N v gs) (hv : gWfL v) (g : Eg) (hg : gs[0]? = some g) (hgo : gEgOk g = true) (li : Int32) : eMet l E yX4_gradeOf (ws_ yX4_gradeOf cX4_gradeOf 6 (some .int)) ({ frames := 2, cells := 0, slots := 0, locals := 44 }) [.ref a, .int (nI N), .int li] [eO a 4 [.ref o.sa, .ref o.pa, .ref o.ha, .ref o.xa, .int o.pn, .int o.ru, .ref o.ta, .int o.ty, .int o.sp, .int o.fr, .int o.re, .int o.ca, .int o.os, .int o.od, .ref o.na], eIA E o.sa 311 f] (fun w Γ => w = some (.int (gGr st (gWi v li) (gStE v g))) ∧ Γ = [eMO a o, eIA E o.sa 311 f]) := by
  refine eStart (cc := cX4_gradeOf) (nL := 6) (L := [some (.ref a), some (.int (nI N)), some (.int li), none, none, none]) hl (by decide) rfl (List.forall_mem_cons.mpr ⟨rfl, (List.forall_mem_cons.mpr ⟨rfl, (List.forall_mem_cons.mpr ⟨rfl, (fun _ h => absurd h List.not_mem_nil)⟩)⟩)⟩) (Nat.le_of_ble_eq_true rfl) ?_
  intro x rs C
  show eZ x E (eQ x E (fun w Γ => w = some (.int (gGr st (gWi v li) (gStE v g))) ∧ Γ = [eMO a o, eIA E o.sa 311 f]) rs) [eO a 4 [.ref o.sa, .ref o.pa, .ref o.ha, .ref o.xa, .int o.pn, .int o.ru, .ref o.ta, .int o.ty, .int o.sp, .int o.fr, .int o.re, .int o.ca, .int o.os, .int o.od, .ref o.na], eIA E o.sa 311 f, rs] 0 [some (.ref a), some (.int (nI N)), some (.int li), none, none, none] [] 0 0
  generalize hQ_ : eQ x E (fun w Γ => w = some (.int (gGr st (gWi v li) (gStE v g))) ∧ Γ = [eMO a o, eIA E o.sa 311 f]) rs = Q_
  have hRR : gGr st (gWi v li) (gStE v g) = if g.y = 2 then 5 else if st 3 < (if g.sh + 40 < li then 0 else gBits (gSeenS st v.tu &&& (gStE v g).sp)) then 4 else gByW g := rfl
  refine z_iload_n C dX4_gradeOf_0 rfl rfl ?_
  refine z_iconst (v := 0) C dX4_gradeOf_1 (by decide) ?_
  refine z_callS (As := [.int (nI N), .int 0]) (rest := []) (Δ := [eO a 4 [.ref o.sa, .ref o.pa, .ref o.ha, .ref o.xa, .int o.pn, .int o.ru, .ref o.ta, .int o.ty, .int o.sp, .int o.fr, .int o.re, .int o.ca, .int o.os, .int o.od, .ref o.na], eIA E o.sa 311 f, rs]) [] [0, 1, 2] 2 (m_MeggAt hl E N 0) C dX4_gradeOf_2 rfl rfl rfl q1737 q1738 q67 q1739 (by decide +kernel) rfl (ePm 3 rfl (by decide +kernel)) rfl rfl ⟨Nat.le_of_ble_eq_true rfl, Nat.le_of_ble_eq_true rfl⟩ (Nat.le_trans eS0 (Nat.le_of_ble_eq_true rfl)) ⟨Nat.le_of_ble_eq_true rfl, Nat.le_of_ble_eq_true rfl⟩ (fun v_ Γ_ hp_ => ?_)
  obtain ⟨rfl, rfl⟩ := hp_
  show eZ x E _ [eO a 4 [.ref o.sa, .ref o.pa, .ref o.ha, .ref o.xa, .int o.pn, .int o.ru, .ref o.ta, .int o.ty, .int o.sp, .int o.fr, .int o.re, .int o.ca, .int o.os, .int o.od, .ref o.na], eIA E o.sa 311 f, rs] 5 [some (.ref a), some (.int (nI N)), some (.int li), none, none, none] [.int (nI (48 * N + 6 * 0))] 0 0
  refine z_istore_n (L2 := [some (.ref a), some (.int (nI N)), some (.int li), some (.int (nI (48 * N + 6 * 0))), none, none]) C dX4_gradeOf_5 rfl (Nat.le_of_ble_eq_true rfl) rfl ?_
  refine z_aload_n C dX4_gradeOf_6 rfl rfl ?_
  refine z_get eK4 0 0 C dX4_gradeOf_7 rfl rfl q1671 (eSame1 rfl) (by decide) rfl ?_
  refine z_iload_n C dX4_gradeOf_10 rfl rfl ?_
  refine z_iconst (v := 3) C dX4_gradeOf_11 (by decide) ?_
  refine z_iadd (w := nI (48 * N + 6 * 0 + 3)) C dX4_gradeOf_12 (nI_add (48 * N + 6 * 0) 3) ?_
  refine z_iald (m := (48 * N + 6 * 0 + 3)) (v := g.y) 1 C dX4_gradeOf_13 rfl rfl (by omega) (by decide) (R.2.2 0 g hg 3 (by decide)) ?_
  refine z_iconst (v := 2) C dX4_gradeOf_14 (by decide) ?_
  refine z_icmp_ne 20 C dX4_gradeOf_15 (by decide) (fun h1 => ?_) (fun h1 => ?_)
  · refine z_iload_n C dX4_gradeOf_20 rfl rfl ?_
    refine z_aload_n C dX4_gradeOf_21 rfl rfl ?_
    refine z_get eK4 0 0 C dX4_gradeOf_22 rfl rfl q1671 (eSame1 rfl) (by decide) rfl ?_
    refine z_iload_n C dX4_gradeOf_25 rfl rfl ?_
    refine z_iconst (v := 1) C dX4_gradeOf_26 (by decide) ?_
    refine z_iadd (w := nI (48 * N + 6 * 0 + 1)) C dX4_gradeOf_27 (nI_add (48 * N + 6 * 0) 1) ?_
    refine z_iald (m := (48 * N + 6 * 0 + 1)) (v := g.sh) 1 C dX4_gradeOf_28 rfl rfl (by omega) (by decide) (R.2.2 0 g hg 1 (by decide)) ?_
    refine z_bipush (v := 40) C dX4_gradeOf_29 (by decide) ?_
    refine z_iadd (w := g.sh + 40) C dX4_gradeOf_31 rfl ?_
    suffices J_ : eZ x E Q_ [eO a 4 [.ref o.sa, .ref o.pa, .ref o.ha, .ref o.xa, .int o.pn, .int o.ru, .ref o.ta, .int o.ty, .int o.sp, .int o.fr, .int o.re, .int o.ca, .int o.os, .int o.od, .ref o.na], eIA E o.sa 311 f, rs] 40 [some (.ref a), some (.int (nI N)), some (.int li), some (.int (nI (48 * N + 6 * 0))), none, none] [.int (eB (decide (g.sh + 40 < li)))] 0 0 by
      refine z_icmp_le 39 C dX4_gradeOf_32 (by decide) (fun h_ => ?_) (fun h_ => ?_)
      · refine z_iconst (v := 0) C dX4_gradeOf_39 (by decide) ?_
        refine z_is (w := eB (decide (g.sh + 40 < li))) (by rw [decide_eq_false (Int32.not_lt.mpr h_)]; rfl) ?_
        exact J_
      · refine z_iconst (v := 1) C dX4_gradeOf_35 (by decide) ?_
        refine z_goto 40 C dX4_gradeOf_36 (by decide) ?_
        refine z_is (w := eB (decide (g.sh + 40 < li))) (by rw [decide_eq_true (Int32.not_le.mp h_)]; rfl) ?_
        exact J_
    refine z_istore (L2 := [some (.ref a), some (.int (nI N)), some (.int li), some (.int (nI (48 * N + 6 * 0))), some (.int (eB (decide (g.sh + 40 < li)))), none]) C dX4_gradeOf_40 (Nat.le_of_ble_eq_true rfl) rfl ?_
    refine z_iload C dX4_gradeOf_42 rfl ?_
    have F : ¬ st 3 < (if g.sh + 40 < li then 0 else gBits (gSeenS st v.tu &&& (gStE v g).sp)) → eZ x E Q_ [eO a 4 [.ref o.sa, .ref o.pa, .ref o.ha, .ref o.xa, .int o.pn, .int o.ru, .ref o.ta, .int o.ty, .int o.sp, .int o.fr, .int o.re, .int o.ca, .int o.os, .int o.od, .ref o.na], eIA E o.sa 311 f, rs] 74 [some (.ref a), some (.int (nI N)), some (.int li), some (.int (nI (48 * N + 6 * 0))), some (.int (eB (decide (g.sh + 40 < li)))), none] [] 0 0 := by
      intro h3
      refine z_aload_n C dX4_gradeOf_74 rfl rfl ?_
      refine z_get eK4 0 0 C dX4_gradeOf_75 rfl rfl q1671 (eSame1 rfl) (by decide) rfl ?_
      refine z_iload_n C dX4_gradeOf_78 rfl rfl ?_
      refine z_iconst (v := 0) C dX4_gradeOf_79 (by decide) ?_
      refine z_iadd (w := nI (48 * N + 6 * 0)) C dX4_gradeOf_80 (nI_add (48 * N + 6 * 0) 0) ?_
      refine z_iald (m := (48 * N + 6 * 0)) (v := g.w) 1 C dX4_gradeOf_81 rfl rfl (by omega) (by decide) (R.2.2 0 g hg 0 (by decide)) ?_
      refine z_istore (L2 := [some (.ref a), some (.int (nI N)), some (.int li), some (.int (nI (48 * N + 6 * 0))), some (.int (eB (decide (g.sh + 40 < li)))), some (.int g.w)]) C dX4_gradeOf_82 (Nat.le_of_ble_eq_true rfl) rfl ?_
      refine z_iload C dX4_gradeOf_84 rfl ?_
      refine z_bipush (v := 50) C dX4_gradeOf_86 (by decide) ?_
      refine z_icmp_ge 95 C dX4_gradeOf_88 (by decide) (fun k1 => ?_) (fun k1 => ?_)
      · refine z_iload C dX4_gradeOf_95 rfl ?_
        refine z_bipush (v := 60) C dX4_gradeOf_97 (by decide) ?_
        refine z_icmp_ge 106 C dX4_gradeOf_99 (by decide) (fun k2 => ?_) (fun k2 => ?_)
        · refine z_iload C dX4_gradeOf_106 rfl ?_
          refine z_bipush (v := 70) C dX4_gradeOf_108 (by decide) ?_
          refine z_icmp_ge 117 C dX4_gradeOf_110 (by decide) (fun k3 => ?_) (fun k3 => ?_)
          · refine z_iconst (v := 3) C dX4_gradeOf_117 (by decide) ?_
            subst hQ_
            exact z_ret (Γ := [eO a 4 [.ref o.sa, .ref o.pa, .ref o.ha, .ref o.xa, .int o.pn, .int o.ru, .ref o.ta, .int o.ty, .int o.sp, .int o.fr, .int o.re, .int o.ca, .int o.os, .int o.od, .ref o.na], eIA E o.sa 311 f]) C dX4_gradeOf_118 rfl rfl (Nat.le_of_ble_eq_true rfl) (Nat.le_of_ble_eq_true rfl) ⟨by rw [hRR, if_neg h1, if_neg h3, gByW_m hgo, if_neg (Int32.not_lt.mpr k1), if_neg (Int32.not_lt.mpr k2), if_neg (Int32.not_lt.mpr k3)], rfl⟩
          · refine z_iconst (v := 2) C dX4_gradeOf_113 (by decide) ?_
            refine z_goto 118 C dX4_gradeOf_114 (by decide) ?_
            subst hQ_
            exact z_ret (Γ := [eO a 4 [.ref o.sa, .ref o.pa, .ref o.ha, .ref o.xa, .int o.pn, .int o.ru, .ref o.ta, .int o.ty, .int o.sp, .int o.fr, .int o.re, .int o.ca, .int o.os, .int o.od, .ref o.na], eIA E o.sa 311 f]) C dX4_gradeOf_118 rfl rfl (Nat.le_of_ble_eq_true rfl) (Nat.le_of_ble_eq_true rfl) ⟨by rw [hRR, if_neg h1, if_neg h3, gByW_m hgo, if_neg (Int32.not_lt.mpr k1), if_neg (Int32.not_lt.mpr k2), if_pos (Int32.not_le.mp k3)], rfl⟩
        · refine z_iconst (v := 1) C dX4_gradeOf_102 (by decide) ?_
          refine z_goto 118 C dX4_gradeOf_103 (by decide) ?_
          subst hQ_
          exact z_ret (Γ := [eO a 4 [.ref o.sa, .ref o.pa, .ref o.ha, .ref o.xa, .int o.pn, .int o.ru, .ref o.ta, .int o.ty, .int o.sp, .int o.fr, .int o.re, .int o.ca, .int o.os, .int o.od, .ref o.na], eIA E o.sa 311 f]) C dX4_gradeOf_118 rfl rfl (Nat.le_of_ble_eq_true rfl) (Nat.le_of_ble_eq_true rfl) ⟨by rw [hRR, if_neg h1, if_neg h3, gByW_m hgo, if_neg (Int32.not_lt.mpr k1), if_pos (Int32.not_le.mp k2)], rfl⟩
      · refine z_iconst (v := 0) C dX4_gradeOf_91 (by decide) ?_
        refine z_goto 118 C dX4_gradeOf_92 (by decide) ?_
        subst hQ_
        exact z_ret (Γ := [eO a 4 [.ref o.sa, .ref o.pa, .ref o.ha, .ref o.xa, .int o.pn, .int o.ru, .ref o.ta, .int o.ty, .int o.sp, .int o.fr, .int o.re, .int o.ca, .int o.os, .int o.od, .ref o.na], eIA E o.sa 311 f]) C dX4_gradeOf_118 rfl rfl (Nat.le_of_ble_eq_true rfl) (Nat.le_of_ble_eq_true rfl) ⟨by rw [hRR, if_neg h1, if_neg h3, gByW_m hgo, if_pos (Int32.not_le.mp k1)], rfl⟩
    refine z_if_ne_B 74 C dX4_gradeOf_44 (by decide) (fun h2 => ?_) (fun h2 => ?_)
    · exact F (by rw [if_pos (of_decide_eq_true h2)]; exact Int32.not_lt.mpr (eBt_0 hS.2.2.2).1)
    · obtain ⟨k1, hk1, he1⟩ := gSp_r (v := v) hgo
      obtain ⟨k2, hk2, he2⟩ := gSeenS_r hS hv.2.1
      refine z_aload_n C dX4_gradeOf_47 rfl rfl ?_
      refine z_iload_n C dX4_gradeOf_48 rfl rfl ?_
      refine z_callV (r := (RX4, TX4, 15)) (As := [.int (nI N)]) (rest := []) (Δ := [rs]) [0, 1] [2] 1 (m_MspotsOf hl E a o f N hN4 v gs R hv g hg hgo) C dX4_gradeOf_49 rfl rfl (eIn (i := 0) rfl List.mem_cons_self) rfl rfl q1793 q1795 qs37 q67 q1796 (by decide +kernel) rfl (ePm 3 rfl (by decide +kernel)) rfl rfl ⟨Nat.le_of_ble_eq_true rfl, Nat.le_of_ble_eq_true rfl⟩ (Nat.le_trans eS0 (Nat.le_of_ble_eq_true rfl)) ⟨Nat.le_of_ble_eq_true rfl, Nat.le_of_ble_eq_true rfl⟩ (fun v_ Γ_ hp_ => ?_)
      obtain ⟨rfl, rfl⟩ := hp_
      show eZ x E _ [eO a 4 [.ref o.sa, .ref o.pa, .ref o.ha, .ref o.xa, .int o.pn, .int o.ru, .ref o.ta, .int o.ty, .int o.sp, .int o.fr, .int o.re, .int o.ca, .int o.os, .int o.od, .ref o.na], eIA E o.sa 311 f, rs] 52 [some (.ref a), some (.int (nI N)), some (.int li), some (.int (nI (48 * N + 6 * 0))), some (.int (eB (decide (g.sh + 40 < li)))), none] [.int ((gStE v g).sp)] 0 0
      refine z_aload_n C dX4_gradeOf_52 rfl rfl ?_
      refine z_iload_n C dX4_gradeOf_53 rfl rfl ?_
      refine z_callV (r := (RX4, TX4, 15)) (As := [.int (nI N)]) (rest := [.int ((gStE v g).sp)]) (Δ := [rs]) [0, 1] [2] 1 (m_Mseen hl E a o f st RS hS N hN4 v gs R) C dX4_gradeOf_54 rfl rfl (eIn (i := 0) rfl List.mem_cons_self) rfl rfl q1781 q1783 qs34 q67 q1784 (by decide +kernel) rfl (ePm 3 rfl (by decide +kernel)) rfl rfl ⟨Nat.le_of_ble_eq_true rfl, Nat.le_of_ble_eq_true rfl⟩ (Nat.le_trans (eSm rfl eS0) (Nat.le_of_ble_eq_true rfl)) ⟨Nat.le_of_ble_eq_true rfl, Nat.le_of_ble_eq_true rfl⟩ (fun v_ Γ_ hp_ => ?_)
      obtain ⟨rfl, rfl⟩ := hp_
      show eZ x E _ [eO a 4 [.ref o.sa, .ref o.pa, .ref o.ha, .ref o.xa, .int o.pn, .int o.ru, .ref o.ta, .int o.ty, .int o.sp, .int o.fr, .int o.re, .int o.ca, .int o.os, .int o.od, .ref o.na], eIA E o.sa 311 f, rs] 57 [some (.ref a), some (.int (nI N)), some (.int li), some (.int (nI (48 * N + 6 * 0))), some (.int (eB (decide (g.sh + 40 < li)))), none] [.int (gSeenS st v.tu), .int ((gStE v g).sp)] 0 0
      refine z_iand (w := nI (k1 &&& k2)) C dX4_gradeOf_57 (by rw [he1, he2]; exact nI_and_ k1 k2) ?_
      refine z_callS (As := [.int (nI (k1 &&& k2))]) (rest := []) (Δ := [eO a 4 [.ref o.sa, .ref o.pa, .ref o.ha, .ref o.xa, .int o.pn, .int o.ru, .ref o.ta, .int o.ty, .int o.sp, .int o.fr, .int o.re, .int o.ca, .int o.os, .int o.od, .ref o.na], eIA E o.sa 311 f, rs]) [] [0, 1, 2] 1 (m_Mbits hl E (k1 &&& k2) (Nat.lt_of_le_of_lt Nat.and_le_left hk1)) C dX4_gradeOf_58 rfl rfl rfl q1797 q1798 q67 q1799 (by decide +kernel) rfl (ePm 3 rfl (by decide +kernel)) rfl rfl ⟨Nat.le_of_ble_eq_true rfl, Nat.le_of_ble_eq_true rfl⟩ (Nat.le_trans eS0 (Nat.le_of_ble_eq_true rfl)) ⟨Nat.le_of_ble_eq_true rfl, Nat.le_of_ble_eq_true rfl⟩ (fun v_ Γ_ hp_ => ?_)
      obtain ⟨rfl, rfl⟩ := hp_
      show eZ x E _ [eO a 4 [.ref o.sa, .ref o.pa, .ref o.ha, .ref o.xa, .int o.pn, .int o.ru, .ref o.ta, .int o.ty, .int o.sp, .int o.fr, .int o.re, .int o.ca, .int o.os, .int o.od, .ref o.na], eIA E o.sa 311 f, rs] 61 [some (.ref a), some (.int (nI N)), some (.int li), some (.int (nI (48 * N + 6 * 0))), some (.int (eB (decide (g.sh + 40 < li)))), none] [.int (gBits (nI (k1 &&& k2)))] 0 0
      refine z_aload_n C dX4_gradeOf_61 rfl rfl ?_
      refine z_get eK4 0 0 C dX4_gradeOf_62 rfl rfl q1671 (eSame1 rfl) (by decide) rfl ?_
      refine z_sipush (v := 310) C dX4_gradeOf_65 (by decide) ?_
      refine z_iald (m := 310) (v := st 3) 1 C dX4_gradeOf_68 rfl rfl (by omega) (by decide) (RS 3 (by decide)) ?_
      have hbb : (if g.sh + 40 < li then 0 else gBits (gSeenS st v.tu &&& (gStE v g).sp)) = gBits (nI (k1 &&& k2)) := by rw [if_neg (of_decide_eq_false h2), he1, he2, nI_and_, Nat.and_comm]
      refine z_icmp_le 74 C dX4_gradeOf_69 (by decide) (fun h3 => ?_) (fun h3 => ?_)
      · exact F (by rw [hbb]; exact Int32.not_lt.mpr h3)
      · refine z_iconst (v := 4) C dX4_gradeOf_72 (by decide) ?_
        subst hQ_
        exact z_ret (Γ := [eO a 4 [.ref o.sa, .ref o.pa, .ref o.ha, .ref o.xa, .int o.pn, .int o.ru, .ref o.ta, .int o.ty, .int o.sp, .int o.fr, .int o.re, .int o.ca, .int o.os, .int o.od, .ref o.na], eIA E o.sa 311 f]) C dX4_gradeOf_73 rfl rfl (Nat.le_of_ble_eq_true rfl) (Nat.le_of_ble_eq_true rfl) ⟨by rw [hRR, if_neg h1, hbb, if_pos (Int32.not_le.mp h3)], rfl⟩
  · refine z_iconst (v := 5) C dX4_gradeOf_18 (by decide) ?_
    subst hQ_
    exact z_ret (Γ := [eO a 4 [.ref o.sa, .ref o.pa, .ref o.ha, .ref o.xa, .int o.pn, .int o.ru, .ref o.ta, .int o.ty, .int o.sp, .int o.fr, .int o.re, .int o.ca, .int o.os, .int o.od, .ref o.na], eIA E o.sa 311 f]) C dX4_gradeOf_19 rfl rfl (Nat.le_of_ble_eq_true rfl) (Nat.le_of_ble_eq_true rfl) ⟨by rw [hRR, if_pos h1], rfl⟩
