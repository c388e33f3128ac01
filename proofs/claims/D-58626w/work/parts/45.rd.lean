/-! ===== the reader ===== -/
set_option maxRecDepth 100000
def gAcc (tx : List Nat) (p sg : Nat) : Bool := decide (tx[p]? = some sg)
/-- digits from place p on, k at most -/
def gRd (tx : List Nat) : Nat → Nat → Int32 → Nat × Int32
  | 0, p, v => (p, v)
  | k + 1, p, v => match tx[p]? with
    | some c => if 48 ≤ c ∧ c ≤ 57 then gRd tx k (p + 1) (10 * v + nI c - 48) else (p, v)
    | none => (p, v)
abbrev eRd (r tr na : Nat) (at_ be re ca mn : Int32) (a : Nat) : va_W := eO r 11 [.ref tr, .ref na, .int at_, .int be, .int re, .int ca, .int mn, .ref a]

set_option maxHeartbeats 4000000 in
theorem m_accepts {l : Launch} (hl : l.stackTraces = false) (E : eEn) (r tr na a ma dq sb sv sN : Nat) (ml : Int32) (tx : List Nat) (tf : Nat → Int32) (hN : sN ≤ 122) (hn : tx.length ≤ sN) (htx : ∀ i c, tx[i]? = some c → tf i = nI c) (h126 : ∀ c ∈ tx, 32 ≤ c ∧ c ≤ 126) (be re ca mn : Int32) (p : Nat) (hp : p ≤ tx.length) (sg : Nat) (hsg : sg < 128) : eMet l E yX12_accepts (ws_ yX12_accepts cX12_accepts 3 (some .boolean)) ({ frames := 4, cells := 0, slots := 0, locals := 88 }) [.ref r, .int (nI sg)] [eO r 11 [.ref tr, .ref na, .int (nI p), .int be, .int re, .int ca, .int mn, .ref a], eO a 0 [.ref ma, .ref dq, .ref sb], eSB E sb sv sN ml tx.length tf] (fun w Γ => w = some (.int (eB (gAcc tx p sg))) ∧ Γ = [eRd r tr na (nI (p + (if gAcc tx p sg = true then 1 else 0))) be re ca mn a, eO a 0 [.ref ma, .ref dq, .ref sb], eSB E sb sv sN ml tx.length tf]) := by
  refine eStart (cc := cX12_accepts) (nL := 3) (L := [some (.ref r), some (.int (nI sg)), none]) hl (by decide) rfl (List.forall_mem_cons.mpr ⟨rfl, (List.forall_mem_cons.mpr ⟨rfl, (fun _ h => absurd h List.not_mem_nil)⟩)⟩) (Nat.le_of_ble_eq_true rfl) ?_
  intro x rs C
  show eZ x E (eQ x E (fun w Γ => w = some (.int (eB (gAcc tx p sg))) ∧ Γ = [eRd r tr na (nI (p + (if gAcc tx p sg = true then 1 else 0))) be re ca mn a, eO a 0 [.ref ma, .ref dq, .ref sb], eSB E sb sv sN ml tx.length tf]) rs) [eO r 11 [.ref tr, .ref na, .int (nI p), .int be, .int re, .int ca, .int mn, .ref a], eO a 0 [.ref ma, .ref dq, .ref sb], eSB E sb sv sN ml tx.length tf, rs] 0 [some (.ref r), some (.int (nI sg)), none] [] 0 0
  generalize hQ_ : eQ x E (fun w Γ => w = some (.int (eB (gAcc tx p sg))) ∧ Γ = [eRd r tr na (nI (p + (if gAcc tx p sg = true then 1 else 0))) be re ca mn a, eO a 0 [.ref ma, .ref dq, .ref sb], eSB E sb sv sN ml tx.length tf]) rs = Q_
  suffices J_ : eZ x E Q_ [eO r 11 [.ref tr, .ref na, .int (nI p), .int be, .int re, .int ca, .int mn, .ref a], eO a 0 [.ref ma, .ref dq, .ref sb], eSB E sb sv sN ml tx.length tf, rs] 40 [some (.ref r), some (.int (nI sg)), none] [.int (eB (gAcc tx p sg))] 0 0 by
    refine z_aload_n C dX12_accepts_0 rfl rfl ?_
    refine z_get eK11 0 2 C dX12_accepts_1 rfl rfl q1543 (eSame1 rfl) (by decide) rfl ?_
    refine z_aload_n C dX12_accepts_4 rfl rfl ?_
    refine z_get eK11 0 7 C dX12_accepts_5 rfl rfl q1552 (eSame1 rfl) (by decide) rfl ?_
    refine z_getN eK0 1 2 C dX12_accepts_8 rfl rfl q401 (eSame1 rfl) (by decide) rfl ?_
    refine z_callV (r := (RJ10, TJ10, 4)) (As := []) (rest := [.int (nI p)]) (Δ := [eO r 11 [.ref tr, .ref na, .int (nI p), .int be, .int re, .int ca, .int mn, .ref a], eO a 0 [.ref ma, .ref dq, .ref sb], rs]) [2] [0, 1, 3] 0 (m_SB_length hl E sb sv sN ml tx.length tf) C dX12_accepts_11 rfl rfl (eIn (i := 2) rfl eSB_mem) rfl rfl q1574 q744 q1952 q64 q745 (by decide +kernel) rfl (ePm 4 rfl (by decide +kernel)) rfl rfl ⟨Nat.le_of_ble_eq_true rfl, Nat.le_of_ble_eq_true rfl⟩ (Nat.le_trans (eSm rfl eS0) (Nat.le_of_ble_eq_true rfl)) ⟨Nat.le_of_ble_eq_true rfl, Nat.le_of_ble_eq_true rfl⟩ (fun v_ Γ_ hp_ => ?_)
    obtain ⟨rfl, rfl⟩ := hp_
    show eZ x E _ [eSB E sb sv sN ml tx.length tf, eO r 11 [.ref tr, .ref na, .int (nI p), .int be, .int re, .int ca, .int mn, .ref a], eO a 0 [.ref ma, .ref dq, .ref sb], rs] 14 [some (.ref r), some (.int (nI sg)), none] [.int (nI tx.length), .int (nI p)] 0 0
    refine z_icmp_ge 39 C dX12_accepts_14 (by decide) (fun h1 => ?_) (fun h1 => ?_)
    · refine z_iconst (v := 0) C dX12_accepts_39 (by decide) ?_
      have hacc : gAcc tx p sg = false := by unfold gAcc; rw [decide_eq_false (by rw [List.getElem?_eq_none (by rcases Nat.lt_or_ge p tx.length with h | h; exact absurd h1 (Int32.not_le.mpr (nI_lt h (by omega))); exact h)]; simp)]
      refine z_is (w := eB (gAcc tx p sg)) (by rw [hacc]; rfl) ?_
      refine z_pick (Γ' := [eO r 11 [.ref tr, .ref na, .int (nI p), .int be, .int re, .int ca, .int mn, .ref a], eO a 0 [.ref ma, .ref dq, .ref sb], eSB E sb sv sN ml tx.length tf, rs]) [1, 2, 0, 3] (ePm 4 rfl (by decide +kernel)) rfl ?_
      exact J_
    · have hlt : p < tx.length := by rcases Nat.lt_or_ge p tx.length with h | h; exact h; exact absurd (nI_le h (by omega)) h1
      obtain ⟨c, hc⟩ : ∃ c, tx[p]? = some c := ⟨_, List.getElem?_eq_getElem hlt⟩
      have hc6 := h126 c (List.mem_of_getElem? hc)
      refine z_aload_n C dX12_accepts_17 rfl rfl ?_
      refine z_get eK11 1 7 C dX12_accepts_18 rfl rfl q1552 (eSame1 rfl) (by decide) rfl ?_
      refine z_getN eK0 2 2 C dX12_accepts_21 rfl rfl q401 (eSame1 rfl) (by decide) rfl ?_
      refine z_aload_n C dX12_accepts_24 rfl rfl ?_
      refine z_get eK11 1 2 C dX12_accepts_25 rfl rfl q1543 (eSame1 rfl) (by decide) rfl ?_
      refine z_callV (r := (RJ10, TJ10, 4)) (As := [.int (nI p)]) (rest := []) (Δ := [eO r 11 [.ref tr, .ref na, .int (nI p), .int be, .int re, .int ca, .int mn, .ref a], eO a 0 [.ref ma, .ref dq, .ref sb], rs]) [0] [1, 2, 3] 1 (m_SB_charAt hl E sb sv sN ml tx.length tf (by omega) hn p hlt c (by omega) (htx _ _ hc)) C dX12_accepts_28 rfl rfl (eIn (i := 0) rfl eSB_mem) rfl rfl q1580 q1581 q1582 q64 q1583 (by decide +kernel) rfl (ePm 4 rfl (by decide +kernel)) rfl rfl ⟨Nat.le_of_ble_eq_true rfl, Nat.le_of_ble_eq_true rfl⟩ (Nat.le_trans eS0 (Nat.le_of_ble_eq_true rfl)) ⟨Nat.le_of_ble_eq_true rfl, Nat.le_of_ble_eq_true rfl⟩ (fun v_ Γ_ hp_ => ?_)
      obtain ⟨rfl, rfl⟩ := hp_
      show eZ x E _ [eSB E sb sv sN ml tx.length tf, eO r 11 [.ref tr, .ref na, .int (nI p), .int be, .int re, .int ca, .int mn, .ref a], eO a 0 [.ref ma, .ref dq, .ref sb], rs] 31 [some (.ref r), some (.int (nI sg)), none] [.int (nI c)] 0 0
      refine z_iload_n C dX12_accepts_31 rfl rfl ?_
      refine z_icmp_ne 39 C dX12_accepts_32 (by decide) (fun h2 => ?_) (fun h2 => ?_)
      · refine z_iconst (v := 0) C dX12_accepts_39 (by decide) ?_
        have hacc : gAcc tx p sg = false := by unfold gAcc; rw [hc, decide_eq_false (fun h => h2 (by rw [Option.some.inj h]))]
        refine z_is (w := eB (gAcc tx p sg)) (by rw [hacc]; rfl) ?_
        refine z_pick (Γ' := [eO r 11 [.ref tr, .ref na, .int (nI p), .int be, .int re, .int ca, .int mn, .ref a], eO a 0 [.ref ma, .ref dq, .ref sb], eSB E sb sv sN ml tx.length tf, rs]) [1, 2, 0, 3] (ePm 4 rfl (by decide +kernel)) rfl ?_
        exact J_
      · refine z_iconst (v := 1) C dX12_accepts_35 (by decide) ?_
        refine z_goto 40 C dX12_accepts_36 (by decide) ?_
        have hacc : gAcc tx p sg = true := by unfold gAcc; rw [hc, decide_eq_true (by rw [(nI_eq (a := c) (b := sg) (by omega) (by omega)).mp h2])]
        refine z_is (w := eB (gAcc tx p sg)) (by rw [hacc]; rfl) ?_
        refine z_pick (Γ' := [eO r 11 [.ref tr, .ref na, .int (nI p), .int be, .int re, .int ca, .int mn, .ref a], eO a 0 [.ref ma, .ref dq, .ref sb], eSB E sb sv sN ml tx.length tf, rs]) [1, 2, 0, 3] (ePm 4 rfl (by decide +kernel)) rfl ?_
        exact J_
  refine z_istore_n (L2 := [some (.ref r), some (.int (nI sg)), some (.int (eB (gAcc tx p sg)))]) C dX12_accepts_40 rfl (Nat.le_of_ble_eq_true rfl) rfl ?_
  refine z_aload_n C dX12_accepts_41 rfl rfl ?_
  refine z_dup C dX12_accepts_42 rfl ?_
  refine z_get eK11 0 2 C dX12_accepts_43 rfl rfl q1543 (eSame1 rfl) (by decide) rfl ?_
  refine z_iload_n C dX12_accepts_46 rfl rfl ?_
  suffices J_ : eZ x E Q_ [eO r 11 [.ref tr, .ref na, .int (nI p), .int be, .int re, .int ca, .int mn, .ref a], eO a 0 [.ref ma, .ref dq, .ref sb], eSB E sb sv sN ml tx.length tf, rs] 55 [some (.ref r), some (.int (nI sg)), some (.int (eB (gAcc tx p sg)))] [.int (eB (gAcc tx p sg)), .int (nI p), .ref r] 0 0 by
    refine z_if_eq_B 54 C dX12_accepts_47 (by decide) (fun h_ => ?_) (fun h_ => ?_)
    · refine z_iconst (v := 0) C dX12_accepts_54 (by decide) ?_
      refine z_is (w := eB (gAcc tx p sg)) (by rw [h_]; rfl) ?_
      exact J_
    · refine z_iconst (v := 1) C dX12_accepts_50 (by decide) ?_
      refine z_goto 55 C dX12_accepts_51 (by decide) ?_
      refine z_is (w := eB (gAcc tx p sg)) (by rw [h_]; rfl) ?_
      exact J_
  refine z_iadd (w := (nI p) + (eB (gAcc tx p sg))) C dX12_accepts_55 rfl ?_
  refine z_put eK11 0 2 (Γ2 := [eO r 11 [.ref tr, .ref na, .int ((nI p) + (eB (gAcc tx p sg))), .int be, .int re, .int ca, .int mn, .ref a], eO a 0 [.ref ma, .ref dq, .ref sb], eSB E sb sv sN ml tx.length tf, rs]) C dX12_accepts_56 rfl rfl q1543 (eSame1 rfl) (by decide) rfl rfl rfl rfl (Nat.le_of_ble_eq_true rfl) rfl ?_
  refine z_iload_n C dX12_accepts_59 rfl rfl ?_
  refine z_pick (Γ' := [eO r 11 [.ref tr, .ref na, .int ((nI p) + (eB (gAcc tx p sg))), .int be, .int re, .int ca, .int mn, .ref a], eO a 0 [.ref ma, .ref dq, .ref sb], eSB E sb sv sN ml tx.length tf, rs]) [0, 1, 2, 3] (ePm 4 rfl (by decide +kernel)) rfl ?_
  subst hQ_
  exact z_ret (Γ := [eO r 11 [.ref tr, .ref na, .int ((nI p) + (eB (gAcc tx p sg))), .int be, .int re, .int ca, .int mn, .ref a], eO a 0 [.ref ma, .ref dq, .ref sb], eSB E sb sv sN ml tx.length tf]) C dX12_accepts_60 rfl (eB_nar _) (Nat.le_of_ble_eq_true rfl) (Nat.le_of_ble_eq_true rfl) ⟨rfl, by rw [show nI p + eB (gAcc tx p sg) = nI (p + (if gAcc tx p sg = true then 1 else 0)) from by cases gAcc tx p sg; exact Int32.add_zero _; exact nI_1 p]⟩

theorem upd_upd_ (f : Nat → Int32) (k : Nat) (v w : Int32) : upd (upd f k v) k w = upd f k w := by
  funext j
  unfold upd
  by_cases h : j = k <;> simp [h]
theorem gRd_digit {tx : List Nat} {k p c : Nat} {v : Int32} (hx : tx[p]? = some c) (hd : 48 ≤ c ∧ c ≤ 57) : gRd tx (k + 1) p v = gRd tx k (p + 1) (10 * v + nI c - 48) := by
  rw [gRd, hx]
  exact if_pos hd
theorem gRd_le (tx : List Nat) (k p : Nat) (v : Int32) (hp : p ≤ tx.length) : p ≤ (gRd tx k p v).1 ∧ (gRd tx k p v).1 ≤ tx.length ∧ (gRd tx k p v).1 ≤ p + k := by
  induction k generalizing p v with
  | zero => exact ⟨Nat.le_refl _, hp, Nat.le_refl _⟩
  | succ k ih =>
    unfold gRd
    rcases hx : tx[p]? with _ | c
    · exact ⟨Nat.le_refl _, hp, Nat.le_add_right _ _⟩
    · have hlt : p < tx.length := (List.getElem?_eq_some_iff.mp hx).1
      dsimp only
      split
      · obtain ⟨h1, h2, h3⟩ := ih (p + 1) (10 * v + nI c - 48) hlt
        exact ⟨by omega, h2, by omega⟩
      · exact ⟨Nat.le_refl _, hp, Nat.le_add_right _ _⟩

theorem eBtN (c a b : Nat) (hc : c < 1000) (ha : a < 1000) (hb : b < 1000) : eBt (nI c) (nI a) (nI b) = decide (a ≤ c ∧ c ≤ b) := by
  exact decide_eq_decide.mpr (and_congr (nI_leI (by omega) (by omega)) (nI_leI (by omega) (by omega)))

set_option maxHeartbeats 4000000 in
theorem m_reads {l : Launch} (hl : l.stackTraces = false) (E : eEn) (r tr na a ma dq sb sv sN : Nat) (ml : Int32) (tx : List Nat) (tf : Nat → Int32) (hN : sN ≤ 122) (hn : tx.length ≤ sN) (htx : ∀ i c, tx[i]? = some c → tf i = nI c) (h126 : ∀ c ∈ tx, 32 ≤ c ∧ c ≤ 126) (be re ca mn : Int32) (p : Nat) (hp : p ≤ tx.length) (f : Nat → Int32) (wh : Nat) (hw : wh < 3) : eMet l E yX12_reads (ws_ yX12_reads cX12_reads 3 (some .boolean)) ({ frames := 4, cells := 0, slots := 0, locals := 88 }) [.ref r, .int (nI wh)] [eO r 11 [.ref tr, .ref na, .int (nI p), .int be, .int re, .int ca, .int mn, .ref a], eIA E na 3 f, eO a 0 [.ref ma, .ref dq, .ref sb], eSB E sb sv sN ml tx.length tf] (fun w Γ => w = some (.int (eB (decide (p < (gRd tx 3 p 0).1)))) ∧ Γ = [eRd r tr na (nI (gRd tx 3 p 0).1) be re ca mn a, eIA E na 3 (upd f wh (gRd tx 3 p 0).2), eO a 0 [.ref ma, .ref dq, .ref sb], eSB E sb sv sN ml tx.length tf]) := by
  refine eStart (cc := cX12_reads) (nL := 3) (L := [some (.ref r), some (.int (nI wh)), none]) hl (by decide) rfl (List.forall_mem_cons.mpr ⟨rfl, (List.forall_mem_cons.mpr ⟨rfl, (fun _ h => absurd h List.not_mem_nil)⟩)⟩) (Nat.le_of_ble_eq_true rfl) ?_
  intro x rs C
  show eZ x E (eQ x E (fun w Γ => w = some (.int (eB (decide (p < (gRd tx 3 p 0).1)))) ∧ Γ = [eRd r tr na (nI (gRd tx 3 p 0).1) be re ca mn a, eIA E na 3 (upd f wh (gRd tx 3 p 0).2), eO a 0 [.ref ma, .ref dq, .ref sb], eSB E sb sv sN ml tx.length tf]) rs) [eO r 11 [.ref tr, .ref na, .int (nI p), .int be, .int re, .int ca, .int mn, .ref a], eIA E na 3 f, eO a 0 [.ref ma, .ref dq, .ref sb], eSB E sb sv sN ml tx.length tf, rs] 0 [some (.ref r), some (.int (nI wh)), none] [] 0 0
  generalize hQ_ : eQ x E (fun w Γ => w = some (.int (eB (decide (p < (gRd tx 3 p 0).1)))) ∧ Γ = [eRd r tr na (nI (gRd tx 3 p 0).1) be re ca mn a, eIA E na 3 (upd f wh (gRd tx 3 p 0).2), eO a 0 [.ref ma, .ref dq, .ref sb], eSB E sb sv sN ml tx.length tf]) rs = Q_
  refine z_iconst (v := 0) C dX12_reads_0 (by decide) ?_
  refine z_istore_n (L2 := [some (.ref r), some (.int (nI wh)), some (.int 0)]) C dX12_reads_1 rfl (Nat.le_of_ble_eq_true rfl) rfl ?_
  refine z_aload_n C dX12_reads_2 rfl rfl ?_
  refine z_get eK11 0 1 C dX12_reads_3 rfl rfl q1542 (eSame1 rfl) (by decide) rfl ?_
  refine z_iload_n C dX12_reads_6 rfl rfl ?_
  refine z_iconst (v := 0) C dX12_reads_7 (by decide) ?_
  refine z_iast (m := wh) (Γ2 := [eO r 11 [.ref tr, .ref na, .int (nI p), .int be, .int re, .int ca, .int mn, .ref a], eIA E na 3 (upd f wh 0), eO a 0 [.ref ma, .ref dq, .ref sb], eSB E sb sv sN ml tx.length tf, rs]) 1 C dX12_reads_8 rfl rfl (by omega) (by decide) rfl ?_
  refine z_pick (Γ' := [eO r 11 [.ref tr, .ref na, .int (nI p), .int be, .int re, .int ca, .int mn, .ref a], eIA E na 3 (upd f wh 0), eO a 0 [.ref ma, .ref dq, .ref sb], eSB E sb sv sN ml tx.length tf, rs]) [0, 1, 2, 3, 4] (ePm 5 rfl (by decide +kernel)) rfl ?_
  have F : ∀ (dg p2 : Nat) (x_ : Int32), p + dg = p2 → dg ≤ 3 → (p2, x_) = gRd tx 3 p 0 → eZ x E Q_ [eO r 11 [.ref tr, .ref na, .int (nI p2), .int be, .int re, .int ca, .int mn, .ref a], eIA E na 3 (upd f wh x_), eO a 0 [.ref ma, .ref dq, .ref sb], eSB E sb sv sN ml tx.length tf, rs] 107 [some (.ref r), some (.int (nI wh)), some (.int (nI dg))] [] 0 0 := by
    intro dg p2 x_ hd hd3 hR
    refine z_iload_n C dX12_reads_107 rfl rfl ?_
    suffices J_ : eZ x E Q_ [eO r 11 [.ref tr, .ref na, .int (nI p2), .int be, .int re, .int ca, .int mn, .ref a], eIA E na 3 (upd f wh x_), eO a 0 [.ref ma, .ref dq, .ref sb], eSB E sb sv sN ml tx.length tf, rs] 116 [some (.ref r), some (.int (nI wh)), some (.int (nI dg))] [.int (eB (decide (p < (gRd tx 3 p 0).1)))] 0 0 by
      refine z_if_le 115 C dX12_reads_108 (by decide) (fun h_ => ?_) (fun h_ => ?_)
      · refine z_iconst (v := 0) C dX12_reads_115 (by decide) ?_
        refine z_is (w := eB (decide (p < (gRd tx 3 p 0).1))) (by rw [decide_eq_false (by rw [← hR]; show ¬ p < p2; intro h; exact absurd h_ (Int32.not_le.mpr (nI_lt (a := 0) (b := dg) (by omega) (by omega))))]; rfl) ?_
        exact J_
      · refine z_iconst (v := 1) C dX12_reads_111 (by decide) ?_
        refine z_goto 116 C dX12_reads_112 (by decide) ?_
        refine z_is (w := eB (decide (p < (gRd tx 3 p 0).1))) (by rw [decide_eq_true (by rw [← hR]; show p < p2; rcases Nat.eq_zero_or_pos dg with h | h; exact absurd (by rw [h]; decide) h_; omega)]; rfl) ?_
        exact J_
    subst hQ_
    exact z_ret (Γ := [eO r 11 [.ref tr, .ref na, .int (nI p2), .int be, .int re, .int ca, .int mn, .ref a], eIA E na 3 (upd f wh x_), eO a 0 [.ref ma, .ref dq, .ref sb], eSB E sb sv sN ml tx.length tf]) C dX12_reads_116 rfl (eB_nar _) (Nat.le_of_ble_eq_true rfl) (Nat.le_of_ble_eq_true rfl) ⟨rfl, by rw [← hR]⟩
  have K : ∀ (k dg p2 : Nat) (x_ : Int32), dg + k = 3 → p + dg = p2 → p2 ≤ tx.length → gRd tx k p2 x_ = gRd tx 3 p 0 → eZ x E Q_ [eO r 11 [.ref tr, .ref na, .int (nI p2), .int be, .int re, .int ca, .int mn, .ref a], eIA E na 3 (upd f wh x_), eO a 0 [.ref ma, .ref dq, .ref sb], eSB E sb sv sN ml tx.length tf, rs] 9 [some (.ref r), some (.int (nI wh)), some (.int (nI dg))] [] 0 0 := by
    intro k
    induction k with
    | zero =>
        intro dg p2 x_ hk hd hp2 hR
        obtain rfl : dg = 3 := by omega
        refine z_iload_n C dX12_reads_9 rfl rfl ?_
        refine z_iconst (v := 3) C dX12_reads_10 (by decide) ?_
        refine z_icmp_ge 107 C dX12_reads_11 (by decide) (fun h_ => ?_) (fun h_ => absurd h_ (absurd (by decide) h_))
        exact F 3 p2 x_ hd (Nat.le_refl _) hR
    | succ k ih =>
        intro dg p2 x_ hk hd hp2 hR
        refine z_iload_n C dX12_reads_9 rfl rfl ?_
        refine z_iconst (v := 3) C dX12_reads_10 (by decide) ?_
        refine z_icmp_ge 107 C dX12_reads_11 (by decide) (fun h_ => absurd h_ (absurd h_ (nI_ge (a := dg) (b := 3) (by omega) (by decide)))) (fun h_ => ?_)
        refine z_aload_n C dX12_reads_14 rfl rfl ?_
        refine z_get eK11 0 2 C dX12_reads_15 rfl rfl q1543 (eSame1 rfl) (by decide) rfl ?_
        refine z_aload_n C dX12_reads_18 rfl rfl ?_
        refine z_get eK11 0 7 C dX12_reads_19 rfl rfl q1552 (eSame1 rfl) (by decide) rfl ?_
        refine z_getN eK0 2 2 C dX12_reads_22 rfl rfl q401 (eSame1 rfl) (by decide) rfl ?_
        refine z_callV (r := (RJ10, TJ10, 4)) (As := []) (rest := [.int (nI p2)]) (Δ := [eO r 11 [.ref tr, .ref na, .int (nI p2), .int be, .int re, .int ca, .int mn, .ref a], eIA E na 3 (upd f wh x_), eO a 0 [.ref ma, .ref dq, .ref sb], rs]) [3] [0, 1, 2, 4] 0 (m_SB_length hl E sb sv sN ml tx.length tf) C dX12_reads_25 rfl rfl (eIn (i := 3) rfl eSB_mem) rfl rfl q1574 q744 q1952 q64 q745 (by decide +kernel) rfl (ePm 5 rfl (by decide +kernel)) rfl rfl ⟨Nat.le_of_ble_eq_true rfl, Nat.le_of_ble_eq_true rfl⟩ (Nat.le_trans (eSm rfl eS0) (Nat.le_of_ble_eq_true rfl)) ⟨Nat.le_of_ble_eq_true rfl, Nat.le_of_ble_eq_true rfl⟩ (fun v_ Γ_ hp_ => ?_)
        obtain ⟨rfl, rfl⟩ := hp_
        show eZ x E _ [eSB E sb sv sN ml tx.length tf, eO r 11 [.ref tr, .ref na, .int (nI p2), .int be, .int re, .int ca, .int mn, .ref a], eIA E na 3 (upd f wh x_), eO a 0 [.ref ma, .ref dq, .ref sb], rs] 28 [some (.ref r), some (.int (nI wh)), some (.int (nI dg))] [.int (nI tx.length), .int (nI p2)] 0 0
        refine z_icmp_ge 107 C dX12_reads_28 (by decide) (fun h1 => ?_) (fun h1 => ?_)
        · refine z_pick (Γ' := [eO r 11 [.ref tr, .ref na, .int (nI p2), .int be, .int re, .int ca, .int mn, .ref a], eIA E na 3 (upd f wh x_), eO a 0 [.ref ma, .ref dq, .ref sb], eSB E sb sv sN ml tx.length tf, rs]) [1, 2, 3, 0, 4] (ePm 5 rfl (by decide +kernel)) rfl ?_
          exact F dg p2 x_ hd (by omega) (by rw [← hR, gRd, List.getElem?_eq_none (by rcases Nat.lt_or_ge p2 tx.length with h | h; exact absurd h1 (Int32.not_le.mpr (nI_lt h (by omega))); exact h)])
        · have hlt : p2 < tx.length := by rcases Nat.lt_or_ge p2 tx.length with h | h; exact h; exact absurd (nI_le h (by omega)) h1
          obtain ⟨c, hc⟩ : ∃ c, tx[p2]? = some c := ⟨_, List.getElem?_eq_getElem hlt⟩
          have hc6 := h126 c (List.mem_of_getElem? hc)
          refine z_aload_n C dX12_reads_31 rfl rfl ?_
          refine z_get eK11 1 7 C dX12_reads_32 rfl rfl q1552 (eSame1 rfl) (by decide) rfl ?_
          refine z_getN eK0 3 2 C dX12_reads_35 rfl rfl q401 (eSame1 rfl) (by decide) rfl ?_
          refine z_aload_n C dX12_reads_38 rfl rfl ?_
          refine z_get eK11 1 2 C dX12_reads_39 rfl rfl q1543 (eSame1 rfl) (by decide) rfl ?_
          refine z_callV (r := (RJ10, TJ10, 4)) (As := [.int (nI p2)]) (rest := []) (Δ := [eO r 11 [.ref tr, .ref na, .int (nI p2), .int be, .int re, .int ca, .int mn, .ref a], eIA E na 3 (upd f wh x_), eO a 0 [.ref ma, .ref dq, .ref sb], rs]) [0] [1, 2, 3, 4] 1 (m_SB_charAt hl E sb sv sN ml tx.length tf (by omega) hn p2 hlt c (by omega) (htx _ _ hc)) C dX12_reads_42 rfl rfl (eIn (i := 0) rfl eSB_mem) rfl rfl q1580 q1581 q1582 q64 q1583 (by decide +kernel) rfl (ePm 5 rfl (by decide +kernel)) rfl rfl ⟨Nat.le_of_ble_eq_true rfl, Nat.le_of_ble_eq_true rfl⟩ (Nat.le_trans eS0 (Nat.le_of_ble_eq_true rfl)) ⟨Nat.le_of_ble_eq_true rfl, Nat.le_of_ble_eq_true rfl⟩ (fun v_ Γ_ hp_ => ?_)
          obtain ⟨rfl, rfl⟩ := hp_
          show eZ x E _ [eSB E sb sv sN ml tx.length tf, eO r 11 [.ref tr, .ref na, .int (nI p2), .int be, .int re, .int ca, .int mn, .ref a], eIA E na 3 (upd f wh x_), eO a 0 [.ref ma, .ref dq, .ref sb], rs] 45 [some (.ref r), some (.int (nI wh)), some (.int (nI dg))] [.int (nI c)] 0 0
          refine z_i2l (v := (nI c).toInt64) C dX12_reads_45 rfl ?_
          refine z_ldc2 C dX12_reads_46 rfl q1654 ?_
          refine z_ldc2 C dX12_reads_49 rfl q1655 ?_
          refine z_callSN (As := [.long ((nI c).toInt64), .long 48, .long 57]) (rest := []) (Δ := [eSB E sb sv sN ml tx.length tf, eO r 11 [.ref tr, .ref na, .int (nI p2), .int be, .int re, .int ca, .int mn, .ref a], eIA E na 3 (upd f wh x_), eO a 0 [.ref ma, .ref dq, .ref sb], rs]) [] [0, 1, 2, 3, 4] 3 (m_bt hl E (nI c) 48 57 48 57 (by decide) (by decide)) C dX12_reads_52 rfl rfl rfl q1656 q987 q49 q988 (by decide +kernel) rfl (ePm 5 rfl (by decide +kernel)) rfl rfl ⟨Nat.le_of_ble_eq_true rfl, Nat.le_of_ble_eq_true rfl⟩ (Nat.le_trans eS0 (Nat.le_of_ble_eq_true rfl)) ⟨Nat.le_of_ble_eq_true rfl, Nat.le_of_ble_eq_true rfl⟩ (fun v_ Γ_ hp_ => ?_)
          obtain ⟨rfl, rfl⟩ := hp_
          show eZ x E _ [eSB E sb sv sN ml tx.length tf, eO r 11 [.ref tr, .ref na, .int (nI p2), .int be, .int re, .int ca, .int mn, .ref a], eIA E na 3 (upd f wh x_), eO a 0 [.ref ma, .ref dq, .ref sb], rs] 55 [some (.ref r), some (.int (nI wh)), some (.int (nI dg))] [.int (eB (eBt (nI c) 48 57))] 0 0
          have hbt : eBt (nI c) 48 57 = decide (48 ≤ c ∧ c ≤ 57) := eBtN c 48 57 (by omega) (by decide) (by decide)
          refine z_if_eq_B 107 C dX12_reads_55 (by decide) (fun h2 => ?_) (fun h2 => ?_)
          · refine z_pick (Γ' := [eO r 11 [.ref tr, .ref na, .int (nI p2), .int be, .int re, .int ca, .int mn, .ref a], eIA E na 3 (upd f wh x_), eO a 0 [.ref ma, .ref dq, .ref sb], eSB E sb sv sN ml tx.length tf, rs]) [1, 2, 3, 0, 4] (ePm 5 rfl (by decide +kernel)) rfl ?_
            exact F dg p2 x_ hd (by omega) (by rw [← hR, gRd, hc]; show _ = if 48 ≤ c ∧ c ≤ 57 then _ else _; rw [if_neg (by rw [hbt] at h2; exact of_decide_eq_false h2)])
          · refine z_aload_n C dX12_reads_58 rfl rfl ?_
            refine z_get eK11 1 1 C dX12_reads_59 rfl rfl q1542 (eSame1 rfl) (by decide) rfl ?_
            refine z_iload_n C dX12_reads_62 rfl rfl ?_
            refine z_bipush (v := 10) C dX12_reads_63 (by decide) ?_
            refine z_aload_n C dX12_reads_65 rfl rfl ?_
            refine z_get eK11 1 1 C dX12_reads_66 rfl rfl q1542 (eSame1 rfl) (by decide) rfl ?_
            refine z_iload_n C dX12_reads_69 rfl rfl ?_
            refine z_iald (m := wh) (v := x_) 2 C dX12_reads_70 rfl rfl (by omega) (by decide) (by simp [upd]) ?_
            refine z_imul (w := 10 * x_) C dX12_reads_71 rfl ?_
            refine z_aload_n C dX12_reads_72 rfl rfl ?_
            refine z_get eK11 1 7 C dX12_reads_73 rfl rfl q1552 (eSame1 rfl) (by decide) rfl ?_
            refine z_getN eK0 3 2 C dX12_reads_76 rfl rfl q401 (eSame1 rfl) (by decide) rfl ?_
            refine z_aload_n C dX12_reads_79 rfl rfl ?_
            refine z_get eK11 1 2 C dX12_reads_80 rfl rfl q1543 (eSame1 rfl) (by decide) rfl ?_
            refine z_callV (r := (RJ10, TJ10, 4)) (As := [.int (nI p2)]) (rest := [.int (10 * x_), .int (nI wh), .ref na]) (Δ := [eO r 11 [.ref tr, .ref na, .int (nI p2), .int be, .int re, .int ca, .int mn, .ref a], eIA E na 3 (upd f wh x_), eO a 0 [.ref ma, .ref dq, .ref sb], rs]) [0] [1, 2, 3, 4] 1 (m_SB_charAt hl E sb sv sN ml tx.length tf (by omega) hn p2 hlt c (by omega) (htx _ _ hc)) C dX12_reads_83 rfl rfl (eIn (i := 0) rfl eSB_mem) rfl rfl q1580 q1581 q1582 q64 q1583 (by decide +kernel) rfl (ePm 5 rfl (by decide +kernel)) rfl rfl ⟨Nat.le_of_ble_eq_true rfl, Nat.le_of_ble_eq_true rfl⟩ (Nat.le_trans (eSm rfl (eSm rfl (eSm rfl eS0))) (Nat.le_of_ble_eq_true rfl)) ⟨Nat.le_of_ble_eq_true rfl, Nat.le_of_ble_eq_true rfl⟩ (fun v_ Γ_ hp_ => ?_)
            obtain ⟨rfl, rfl⟩ := hp_
            show eZ x E _ [eSB E sb sv sN ml tx.length tf, eO r 11 [.ref tr, .ref na, .int (nI p2), .int be, .int re, .int ca, .int mn, .ref a], eIA E na 3 (upd f wh x_), eO a 0 [.ref ma, .ref dq, .ref sb], rs] 86 [some (.ref r), some (.int (nI wh)), some (.int (nI dg))] [.int (nI c), .int (10 * x_), .int (nI wh), .ref na] 0 0
            refine z_iadd (w := (10 * x_) + (nI c)) C dX12_reads_86 rfl ?_
            refine z_bipush (v := 48) C dX12_reads_87 (by decide) ?_
            refine z_isub (w := ((10 * x_) + (nI c)) - 48) C dX12_reads_89 rfl ?_
            refine z_iast (m := wh) (Γ2 := [eSB E sb sv sN ml tx.length tf, eO r 11 [.ref tr, .ref na, .int (nI p2), .int be, .int re, .int ca, .int mn, .ref a], eIA E na 3 (upd f wh (10 * x_ + nI c - 48)), eO a 0 [.ref ma, .ref dq, .ref sb], rs]) 2 C dX12_reads_90 rfl rfl (by omega) (by decide) (by rw [upd_upd_]; rfl) ?_
            refine z_iinc (v := nI (dg + 1)) (L2 := [some (.ref r), some (.int (nI wh)), some (.int (nI (dg + 1)))]) C dX12_reads_91 rfl (nI_1 dg) rfl ?_
            refine z_aload_n C dX12_reads_94 rfl rfl ?_
            refine z_dup C dX12_reads_95 rfl ?_
            refine z_get eK11 1 2 C dX12_reads_96 rfl rfl q1543 (eSame1 rfl) (by decide) rfl ?_
            refine z_iconst (v := 1) C dX12_reads_99 (by decide) ?_
            refine z_iadd (w := nI (p2 + 1)) C dX12_reads_100 (nI_1 p2) ?_
            refine z_put eK11 1 2 (Γ2 := [eSB E sb sv sN ml tx.length tf, eO r 11 [.ref tr, .ref na, .int (nI (p2 + 1)), .int be, .int re, .int ca, .int mn, .ref a], eIA E na 3 (upd f wh (10 * x_ + nI c - 48)), eO a 0 [.ref ma, .ref dq, .ref sb], rs]) C dX12_reads_101 rfl rfl q1543 (eSame1 rfl) (by decide) rfl rfl rfl rfl (Nat.le_of_ble_eq_true rfl) rfl ?_
            refine z_goto 9 C dX12_reads_104 (by decide) ?_
            refine z_pick (Γ' := [eO r 11 [.ref tr, .ref na, .int (nI (p2 + 1)), .int be, .int re, .int ca, .int mn, .ref a], eIA E na 3 (upd f wh (10 * x_ + nI c - 48)), eO a 0 [.ref ma, .ref dq, .ref sb], eSB E sb sv sN ml tx.length tf, rs]) [1, 2, 3, 0, 4] (ePm 5 rfl (by decide +kernel)) rfl ?_
            exact ih (dg + 1) (p2 + 1) _ (by omega) (by omega) hlt (by rw [← hR, gRd_digit hc (by rw [hbt] at h2; exact of_decide_eq_true h2)])
  exact K 3 0 p 0 rfl rfl hp rfl
