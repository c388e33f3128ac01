/-! ===== the reader: an order's form ===== -/
set_option maxRecDepth 100000
/-- numbers from the wh-th on, k of them -/
def gFm (tx : List Nat) : Nat → Nat → Nat → (Nat → Int32) → Bool × Nat × (Nat → Int32)
  | 0, _, p, f => (true, p, f)
  | k + 1, wh, p, f =>
    if wh ≠ 0 ∧ gAcc tx p 44 = false then (false, p, f)
    else if (if wh = 0 then p else p + 1) < (gRd tx 3 (if wh = 0 then p else p + 1) 0).1 then gFm tx k (wh + 1) (gRd tx 3 (if wh = 0 then p else p + 1) 0).1 (upd f wh (gRd tx 3 (if wh = 0 then p else p + 1) 0).2)
    else (false, (gRd tx 3 (if wh = 0 then p else p + 1) 0).1, upd f wh (gRd tx 3 (if wh = 0 then p else p + 1) 0).2)
def gOF (tx : List Nat) (W p : Nat) (f : Nat → Int32) : Bool × Nat × (Nat → Int32) :=
  if W = 0 then (false, p, f) else if (gFm tx W 0 p f).1 = true then (gAcc tx (gFm tx W 0 p f).2.1 59, (gFm tx W 0 p f).2.1 + (if gAcc tx (gFm tx W 0 p f).2.1 59 = true then 1 else 0), (gFm tx W 0 p f).2.2) else gFm tx W 0 p f
theorem gAcc_lt {tx : List Nat} {p sg : Nat} (h : gAcc tx p sg = true) : p < tx.length := (List.getElem?_eq_some_iff.mp (of_decide_eq_true h)).1

theorem gFm_0f {tx : List Nat} {k p : Nat} {f : Nat → Int32} (h : ¬ p < (gRd tx 3 p 0).1) : gFm tx (k + 1) 0 p f = (false, (gRd tx 3 p 0).1, upd f 0 (gRd tx 3 p 0).2) := by
  rw [gFm, if_neg (fun h2 => h2.1 rfl)]
  simp only [if_true]
  rw [if_neg h]
theorem gFm_0t {tx : List Nat} {k p : Nat} {f : Nat → Int32} (h : p < (gRd tx 3 p 0).1) : gFm tx (k + 1) 0 p f = gFm tx k (0 + 1) (gRd tx 3 p 0).1 (upd f 0 (gRd tx 3 p 0).2) := by
  rw [gFm, if_neg (fun h2 => h2.1 rfl)]
  simp only [if_true]
  rw [if_pos h]
theorem gFm_1f {tx : List Nat} {k wh p : Nat} {f : Nat → Int32} (hw : wh ≠ 0) (ha : gAcc tx p 44 = true) (h : ¬ p + 1 < (gRd tx 3 (p + 1) 0).1) : gFm tx (k + 1) wh p f = (false, (gRd tx 3 (p + 1) 0).1, upd f wh (gRd tx 3 (p + 1) 0).2) := by
  rw [gFm, if_neg (fun h2 => by rw [ha] at h2; cases h2.2)]
  simp only [if_neg hw]
  rw [if_neg h]
theorem gFm_1t {tx : List Nat} {k wh p : Nat} {f : Nat → Int32} (hw : wh ≠ 0) (ha : gAcc tx p 44 = true) (h : p + 1 < (gRd tx 3 (p + 1) 0).1) : gFm tx (k + 1) wh p f = gFm tx k (wh + 1) (gRd tx 3 (p + 1) 0).1 (upd f wh (gRd tx 3 (p + 1) 0).2) := by
  rw [gFm, if_neg (fun h2 => by rw [ha] at h2; cases h2.2)]
  simp only [if_neg hw]
  rw [if_pos h]

set_option maxHeartbeats 4000000 in
theorem m_isOfForm {l : Launch} (hl : l.stackTraces = false) (E : eEn) (r tr na a ma dq sb sv sN : Nat) (ml : Int32) (tx : List Nat) (tf : Nat → Int32) (hN : sN ≤ 122) (hn : tx.length ≤ sN) (htx : ∀ i c, tx[i]? = some c → tf i = nI c) (h126 : ∀ c ∈ tx, 32 ≤ c ∧ c ≤ 126) (be re ca mn : Int32) (p : Nat) (hp : p ≤ tx.length) (f : Nat → Int32) (W : Nat) (hW3 : W ≤ 3) : eMet l E yX12_isOfForm (ws_ yX12_isOfForm cX12_isOfForm 4 (some .boolean)) ({ frames := 5, cells := 0, slots := 0, locals := 110 }) [.ref r, .int (nI W)] [eO r 11 [.ref tr, .ref na, .int (nI p), .int be, .int re, .int ca, .int mn, .ref a], eIA E na 3 f, eO a 0 [.ref ma, .ref dq, .ref sb], eSB E sb sv sN ml tx.length tf] (fun w Γ => w = some (.int (eB (gOF tx W p f).1)) ∧ Γ = [eRd r tr na (nI (gOF tx W p f).2.1) be re ca mn a, eIA E na 3 (gOF tx W p f).2.2, eO a 0 [.ref ma, .ref dq, .ref sb], eSB E sb sv sN ml tx.length tf]) := by
  refine eStart (cc := cX12_isOfForm) (nL := 4) (L := [some (.ref r), some (.int (nI W)), none, none]) hl (by decide) rfl (List.forall_mem_cons.mpr ⟨rfl, (List.forall_mem_cons.mpr ⟨rfl, (fun _ h => absurd h List.not_mem_nil)⟩)⟩) (Nat.le_of_ble_eq_true rfl) ?_
  intro x rs C
  show eZ x E (eQ x E (fun w Γ => w = some (.int (eB (gOF tx W p f).1)) ∧ Γ = [eRd r tr na (nI (gOF tx W p f).2.1) be re ca mn a, eIA E na 3 (gOF tx W p f).2.2, eO a 0 [.ref ma, .ref dq, .ref sb], eSB E sb sv sN ml tx.length tf]) rs) [eO r 11 [.ref tr, .ref na, .int (nI p), .int be, .int re, .int ca, .int mn, .ref a], eIA E na 3 f, eO a 0 [.ref ma, .ref dq, .ref sb], eSB E sb sv sN ml tx.length tf, rs] 0 [some (.ref r), some (.int (nI W)), none, none] [] 0 0
  generalize hQ_ : eQ x E (fun w Γ => w = some (.int (eB (gOF tx W p f).1)) ∧ Γ = [eRd r tr na (nI (gOF tx W p f).2.1) be re ca mn a, eIA E na 3 (gOF tx W p f).2.2, eO a 0 [.ref ma, .ref dq, .ref sb], eSB E sb sv sN ml tx.length tf]) rs = Q_
  refine z_iload_n C dX12_isOfForm_0 rfl rfl ?_
  refine z_if_le 8 C dX12_isOfForm_1 (by decide) (fun h0 => ?_) (fun h0 => ?_)
  · obtain rfl : W = 0 := by rcases Nat.eq_zero_or_pos W with h | h; exact h; exact absurd h0 (Int32.not_le.mpr (nI_lt (a := 0) (b := W) h (by omega)))
    show eZ x E _ [eO r 11 [.ref tr, .ref na, .int (nI p), .int be, .int re, .int ca, .int mn, .ref a], eIA E na 3 f, eO a 0 [.ref ma, .ref dq, .ref sb], eSB E sb sv sN ml tx.length tf, rs] 8 [some (.ref r), some (.int (nI 0)), none, none] [] 0 0
    refine z_iconst (v := 0) C dX12_isOfForm_8 (by decide) ?_
    refine z_istore_n (L2 := [some (.ref r), some (.int (nI 0)), some (.int 0), none]) C dX12_isOfForm_9 rfl (Nat.le_of_ble_eq_true rfl) rfl ?_
    refine z_iconst (v := 0) C dX12_isOfForm_10 (by decide) ?_
    refine z_istore_n (L2 := [some (.ref r), some (.int (nI 0)), some (.int 0), some (.int 0)]) C dX12_isOfForm_11 rfl (Nat.le_of_ble_eq_true rfl) rfl ?_
    refine z_iload_n C dX12_isOfForm_12 rfl rfl ?_
    refine z_iload_n C dX12_isOfForm_13 rfl rfl ?_
    refine z_icmp_ge 54 C dX12_isOfForm_14 (by decide) (fun h_ => ?_) (fun h_ => absurd h_ (absurd (Int32.le_refl _) h_))
    refine z_iload_n C dX12_isOfForm_54 rfl rfl ?_
    refine z_if_eq 71 C dX12_isOfForm_55 (by decide) (fun h1 => ?_) (fun h1 => ?_)
    · refine z_iconst (v := 0) C dX12_isOfForm_71 (by decide) ?_
      subst hQ_
      exact z_ret (Γ := [eO r 11 [.ref tr, .ref na, .int (nI p), .int be, .int re, .int ca, .int mn, .ref a], eIA E na 3 f, eO a 0 [.ref ma, .ref dq, .ref sb], eSB E sb sv sN ml tx.length tf]) C dX12_isOfForm_72 rfl rfl (Nat.le_of_ble_eq_true rfl) (Nat.le_of_ble_eq_true rfl) ⟨rfl, rfl⟩
    · exact absurd rfl h1
  · have hW : 0 < W := by rcases Nat.eq_zero_or_pos W with h | h; exact absurd (by rw [h]; decide) h0; exact h
    refine z_iconst (v := 1) C dX12_isOfForm_4 (by decide) ?_
    refine z_goto 9 C dX12_isOfForm_5 (by decide) ?_
    refine z_istore_n (L2 := [some (.ref r), some (.int (nI W)), some (.int 1), none]) C dX12_isOfForm_9 rfl (Nat.le_of_ble_eq_true rfl) rfl ?_
    refine z_iconst (v := 0) C dX12_isOfForm_10 (by decide) ?_
    refine z_istore_n (L2 := [some (.ref r), some (.int (nI W)), some (.int 1), some (.int 0)]) C dX12_isOfForm_11 rfl (Nat.le_of_ble_eq_true rfl) rfl ?_
    have F0 : ∀ (p2 : Nat) (f2 : Nat → Int32), (false, p2, f2) = gFm tx W 0 p f → eZ x E Q_ [eO r 11 [.ref tr, .ref na, .int (nI p2), .int be, .int re, .int ca, .int mn, .ref a], eIA E na 3 f2, eO a 0 [.ref ma, .ref dq, .ref sb], eSB E sb sv sN ml tx.length tf, rs] 54 [some (.ref r), some (.int (nI W)), some (.int 0), none] [] 0 0 := by
      intro p2 f2 hR
      refine z_iload_n C dX12_isOfForm_54 rfl rfl ?_
      refine z_if_eq 71 C dX12_isOfForm_55 (by decide) (fun h1 => ?_) (fun h1 => ?_)
      · refine z_iconst (v := 0) C dX12_isOfForm_71 (by decide) ?_
        subst hQ_
        exact z_ret (Γ := [eO r 11 [.ref tr, .ref na, .int (nI p2), .int be, .int re, .int ca, .int mn, .ref a], eIA E na 3 f2, eO a 0 [.ref ma, .ref dq, .ref sb], eSB E sb sv sN ml tx.length tf]) C dX12_isOfForm_72 rfl rfl (Nat.le_of_ble_eq_true rfl) (Nat.le_of_ble_eq_true rfl) ⟨by rw [gOF, if_neg (by omega), ← hR]; rfl, by rw [gOF, if_neg (by omega), ← hR]; rfl⟩
      · exact absurd rfl h1
    have F1 : ∀ (p2 : Nat) (f2 : Nat → Int32), p2 ≤ tx.length → (true, p2, f2) = gFm tx W 0 p f → eZ x E Q_ [eO r 11 [.ref tr, .ref na, .int (nI p2), .int be, .int re, .int ca, .int mn, .ref a], eIA E na 3 f2, eO a 0 [.ref ma, .ref dq, .ref sb], eSB E sb sv sN ml tx.length tf, rs] 54 [some (.ref r), some (.int (nI W)), some (.int 1), none] [] 0 0 := by
      intro p2 f2 hp2 hR
      have hWn : ¬ W = 0 := by omega
      have hO : gOF tx W p f = (gAcc tx p2 59, p2 + (if gAcc tx p2 59 = true then 1 else 0), f2) := by rw [gOF, if_neg hWn, ← hR]; rfl
      refine z_iload_n C dX12_isOfForm_54 rfl rfl ?_
      refine z_if_eq 71 C dX12_isOfForm_55 (by decide) (fun h1 => ?_) (fun h1 => ?_)
      · exact absurd h1 (by decide)
      · refine z_aload_n C dX12_isOfForm_58 rfl rfl ?_
        refine z_bipush (v := 59) C dX12_isOfForm_59 (by decide) ?_
        refine z_callV (r := (RX12, TX12, 8)) (As := [.int 59]) (rest := []) (Δ := [eIA E na 3 f2, rs]) [0, 2, 3] [1, 4] 1 (m_accepts hl E r tr na a ma dq sb sv sN ml tx tf hN hn htx h126 be re ca mn p2 hp2 59 (by decide)) C dX12_isOfForm_61 rfl rfl (eIn (i := 0) rfl List.mem_cons_self) rfl rfl q1646 q1648 qs25 q91 q1649 (by decide +kernel) rfl (ePm 5 rfl (by decide +kernel)) rfl rfl ⟨Nat.le_of_ble_eq_true rfl, Nat.le_of_ble_eq_true rfl⟩ (Nat.le_trans eS0 (Nat.le_of_ble_eq_true rfl)) ⟨Nat.le_of_ble_eq_true rfl, Nat.le_of_ble_eq_true rfl⟩ (fun v_ Γ_ hp_ => ?_)
        obtain ⟨rfl, rfl⟩ := hp_
        show eZ x E _ [eO r 11 [.ref tr, .ref na, .int (nI (p2 + (if gAcc tx p2 59 = true then 1 else 0))), .int be, .int re, .int ca, .int mn, .ref a], eO a 0 [.ref ma, .ref dq, .ref sb], eSB E sb sv sN ml tx.length tf, eIA E na 3 f2, rs] 64 [some (.ref r), some (.int (nI W)), some (.int 1), none] [.int (eB (gAcc tx p2 59))] 0 0
        suffices J_ : eZ x E Q_ [eO r 11 [.ref tr, .ref na, .int (nI (p2 + (if gAcc tx p2 59 = true then 1 else 0))), .int be, .int re, .int ca, .int mn, .ref a], eO a 0 [.ref ma, .ref dq, .ref sb], eSB E sb sv sN ml tx.length tf, eIA E na 3 f2, rs] 72 [some (.ref r), some (.int (nI W)), some (.int 1), none] [.int (eB (gAcc tx p2 59))] 0 0 by
          refine z_if_eq_B 71 C dX12_isOfForm_64 (by decide) (fun h_ => ?_) (fun h_ => ?_)
          · refine z_iconst (v := 0) C dX12_isOfForm_71 (by decide) ?_
            refine z_is (w := eB (gAcc tx p2 59)) (by rw [h_]; rfl) ?_
            exact J_
          · refine z_iconst (v := 1) C dX12_isOfForm_67 (by decide) ?_
            refine z_goto 72 C dX12_isOfForm_68 (by decide) ?_
            refine z_is (w := eB (gAcc tx p2 59)) (by rw [h_]; rfl) ?_
            exact J_
        refine z_pick (Γ' := [eO r 11 [.ref tr, .ref na, .int (nI (p2 + (if gAcc tx p2 59 = true then 1 else 0))), .int be, .int re, .int ca, .int mn, .ref a], eIA E na 3 f2, eO a 0 [.ref ma, .ref dq, .ref sb], eSB E sb sv sN ml tx.length tf, rs]) [0, 3, 1, 2, 4] (ePm 5 rfl (by decide +kernel)) rfl ?_
        subst hQ_
        exact z_ret (Γ := [eO r 11 [.ref tr, .ref na, .int (nI (p2 + (if gAcc tx p2 59 = true then 1 else 0))), .int be, .int re, .int ca, .int mn, .ref a], eIA E na 3 f2, eO a 0 [.ref ma, .ref dq, .ref sb], eSB E sb sv sN ml tx.length tf]) C dX12_isOfForm_72 rfl (eB_nar _) (Nat.le_of_ble_eq_true rfl) (Nat.le_of_ble_eq_true rfl) ⟨by rw [hO], by rw [hO]⟩
    have K : ∀ (k wh p2 : Nat) (f2 : Nat → Int32), wh + k = W → p2 ≤ tx.length → gFm tx k wh p2 f2 = gFm tx W 0 p f → eZ x E Q_ [eO r 11 [.ref tr, .ref na, .int (nI p2), .int be, .int re, .int ca, .int mn, .ref a], eIA E na 3 f2, eO a 0 [.ref ma, .ref dq, .ref sb], eSB E sb sv sN ml tx.length tf, rs] 12 [some (.ref r), some (.int (nI W)), some (.int 1), some (.int (nI wh))] [] 0 0 := by
      intro k
      induction k with
      | zero =>
          intro wh p2 f2 hk hp2 hR
          obtain rfl : wh = W := by omega
          refine z_iload_n C dX12_isOfForm_12 rfl rfl ?_
          refine z_iload_n C dX12_isOfForm_13 rfl rfl ?_
          refine z_icmp_ge 54 C dX12_isOfForm_14 (by decide) (fun h_ => ?_) (fun h_ => absurd h_ (absurd (Int32.le_refl _) h_))
          refine z_forget (L' := [some (.ref r), some (.int (nI wh)), some (.int 1), none]) ⟨Or.inr rfl, Or.inr rfl, Or.inr rfl, Or.inl rfl, trivial⟩ ?_
          exact F1 p2 f2 hp2 hR
      | succ k ih =>
          intro wh p2 f2 hk hp2 hR
          refine z_iload_n C dX12_isOfForm_12 rfl rfl ?_
          refine z_iload_n C dX12_isOfForm_13 rfl rfl ?_
          refine z_icmp_ge 54 C dX12_isOfForm_14 (by decide) (fun h_ => absurd h_ (absurd h_ (nI_ge (a := wh) (b := W) (by omega) (by omega)))) (fun h_ => ?_)
          refine z_iload_n C dX12_isOfForm_17 rfl rfl ?_
          refine z_if_eq 54 C dX12_isOfForm_18 (by decide) (fun h1 => ?_) (fun h1 => ?_)
          · exact absurd h1 (by decide)
          · refine z_iload_n C dX12_isOfForm_21 rfl rfl ?_
            refine z_if_eq 34 C dX12_isOfForm_22 (by decide) (fun hw => ?_) (fun hw => ?_)
            · obtain rfl : wh = 0 := by rcases Nat.eq_zero_or_pos wh with h | h; exact h; exact absurd hw (nI_ne0 h (by omega))
              show eZ x E _ [eO r 11 [.ref tr, .ref na, .int (nI p2), .int be, .int re, .int ca, .int mn, .ref a], eIA E na 3 f2, eO a 0 [.ref ma, .ref dq, .ref sb], eSB E sb sv sN ml tx.length tf, rs] 34 [some (.ref r), some (.int (nI W)), some (.int 1), some (.int (nI 0))] [] 0 0
              refine z_aload_n C dX12_isOfForm_34 rfl rfl ?_
              refine z_iload_n C dX12_isOfForm_35 rfl rfl ?_
              refine z_callV (r := (RX12, TX12, 8)) (As := [.int (nI 0)]) (rest := []) (Δ := [rs]) [0, 1, 2, 3] [4] 1 (m_reads hl E r tr na a ma dq sb sv sN ml tx tf hN hn htx h126 be re ca mn (p2) hp2 f2 0 (by omega)) C dX12_isOfForm_36 rfl rfl (eIn (i := 0) rfl List.mem_cons_self) rfl rfl q1650 q1652 qs26 q91 q1653 (by decide +kernel) rfl (ePm 5 rfl (by decide +kernel)) rfl rfl ⟨Nat.le_of_ble_eq_true rfl, Nat.le_of_ble_eq_true rfl⟩ (Nat.le_trans eS0 (Nat.le_of_ble_eq_true rfl)) ⟨Nat.le_of_ble_eq_true rfl, Nat.le_of_ble_eq_true rfl⟩ (fun v_ Γ_ hp_ => ?_)
              obtain ⟨rfl, rfl⟩ := hp_
              show eZ x E _ [eO r 11 [.ref tr, .ref na, .int (nI (gRd tx 3 (p2) 0).1), .int be, .int re, .int ca, .int mn, .ref a], eIA E na 3 (upd f2 0 (gRd tx 3 (p2) 0).2), eO a 0 [.ref ma, .ref dq, .ref sb], eSB E sb sv sN ml tx.length tf, rs] 39 [some (.ref r), some (.int (nI W)), some (.int 1), some (.int (nI 0))] [.int (eB (decide (p2 < (gRd tx 3 (p2) 0).1)))] 0 0
              refine z_if_eq_B 46 C dX12_isOfForm_39 (by decide) (fun k1 => ?_) (fun k1 => ?_)
              · refine z_iconst (v := 0) C dX12_isOfForm_46 (by decide) ?_
                refine z_istore_n (L2 := [some (.ref r), some (.int (nI W)), some (.int 0), some (.int (nI 0))]) C dX12_isOfForm_47 rfl (Nat.le_of_ble_eq_true rfl) rfl ?_
                refine z_iinc (v := nI (0 + 1)) (L2 := [some (.ref r), some (.int (nI W)), some (.int 0), some (.int (nI (0 + 1)))]) C dX12_isOfForm_48 rfl (nI_1 0) rfl ?_
                refine z_goto 12 C dX12_isOfForm_51 (by decide) ?_
                refine z_iload_n C dX12_isOfForm_12 rfl rfl ?_
                refine z_iload_n C dX12_isOfForm_13 rfl rfl ?_
                refine z_icmp_ge 54 C dX12_isOfForm_14 (by decide) (fun g1 => ?_) (fun g1 => ?_)
                · refine z_forget (L' := [some (.ref r), some (.int (nI W)), some (.int 0), none]) ⟨Or.inr rfl, Or.inr rfl, Or.inr rfl, Or.inl rfl, trivial⟩ ?_
                  exact F0 ((gRd tx 3 (p2) 0).1) (upd f2 0 (gRd tx 3 (p2) 0).2) (by rw [← hR]; exact (gFm_0f (of_decide_eq_false k1)).symm)
                · refine z_iload_n C dX12_isOfForm_17 rfl rfl ?_
                  refine z_if_eq 54 C dX12_isOfForm_18 (by decide) (fun g2 => ?_) (fun g2 => ?_)
                  · refine z_forget (L' := [some (.ref r), some (.int (nI W)), some (.int 0), none]) ⟨Or.inr rfl, Or.inr rfl, Or.inr rfl, Or.inl rfl, trivial⟩ ?_
                    exact F0 ((gRd tx 3 (p2) 0).1) (upd f2 0 (gRd tx 3 (p2) 0).2) (by rw [← hR]; exact (gFm_0f (of_decide_eq_false k1)).symm)
                  · exact absurd rfl g2
              · refine z_iconst (v := 1) C dX12_isOfForm_42 (by decide) ?_
                refine z_goto 47 C dX12_isOfForm_43 (by decide) ?_
                refine z_istore_n (L2 := [some (.ref r), some (.int (nI W)), some (.int 1), some (.int (nI 0))]) C dX12_isOfForm_47 rfl (Nat.le_of_ble_eq_true rfl) rfl ?_
                refine z_iinc (v := nI (0 + 1)) (L2 := [some (.ref r), some (.int (nI W)), some (.int 1), some (.int (nI (0 + 1)))]) C dX12_isOfForm_48 rfl (nI_1 0) rfl ?_
                refine z_goto 12 C dX12_isOfForm_51 (by decide) ?_
                exact ih (0 + 1) _ _ (by omega) (gRd_le tx 3 (p2) 0 hp2).2.1 (by rw [← hR]; exact (gFm_0t (of_decide_eq_true k1)).symm)
            · have hw0 : wh ≠ 0 := fun h => hw (by rw [h]; rfl)
              refine z_aload_n C dX12_isOfForm_25 rfl rfl ?_
              refine z_bipush (v := 44) C dX12_isOfForm_26 (by decide) ?_
              refine z_callV (r := (RX12, TX12, 8)) (As := [.int 44]) (rest := []) (Δ := [eIA E na 3 f2, rs]) [0, 2, 3] [1, 4] 1 (m_accepts hl E r tr na a ma dq sb sv sN ml tx tf hN hn htx h126 be re ca mn p2 hp2 44 (by decide)) C dX12_isOfForm_28 rfl rfl (eIn (i := 0) rfl List.mem_cons_self) rfl rfl q1646 q1648 qs25 q91 q1649 (by decide +kernel) rfl (ePm 5 rfl (by decide +kernel)) rfl rfl ⟨Nat.le_of_ble_eq_true rfl, Nat.le_of_ble_eq_true rfl⟩ (Nat.le_trans eS0 (Nat.le_of_ble_eq_true rfl)) ⟨Nat.le_of_ble_eq_true rfl, Nat.le_of_ble_eq_true rfl⟩ (fun v_ Γ_ hp_ => ?_)
              obtain ⟨rfl, rfl⟩ := hp_
              show eZ x E _ [eO r 11 [.ref tr, .ref na, .int (nI (p2 + (if gAcc tx p2 44 = true then 1 else 0))), .int be, .int re, .int ca, .int mn, .ref a], eO a 0 [.ref ma, .ref dq, .ref sb], eSB E sb sv sN ml tx.length tf, eIA E na 3 f2, rs] 31 [some (.ref r), some (.int (nI W)), some (.int 1), some (.int (nI wh))] [.int (eB (gAcc tx p2 44))] 0 0
              refine z_if_eq_B 46 C dX12_isOfForm_31 (by decide) (fun ha => ?_) (fun ha => ?_)
              · refine z_go (Γ' := [eO r 11 [.ref tr, .ref na, .int (nI p2), .int be, .int re, .int ca, .int mn, .ref a], eO a 0 [.ref ma, .ref dq, .ref sb], eSB E sb sv sN ml tx.length tf, eIA E na 3 f2, rs]) (by rw [ha]; rfl) ?_
                refine z_pick (Γ' := [eO r 11 [.ref tr, .ref na, .int (nI p2), .int be, .int re, .int ca, .int mn, .ref a], eIA E na 3 f2, eO a 0 [.ref ma, .ref dq, .ref sb], eSB E sb sv sN ml tx.length tf, rs]) [0, 3, 1, 2, 4] (ePm 5 rfl (by decide +kernel)) rfl ?_
                refine z_iconst (v := 0) C dX12_isOfForm_46 (by decide) ?_
                refine z_istore_n (L2 := [some (.ref r), some (.int (nI W)), some (.int 0), some (.int (nI wh))]) C dX12_isOfForm_47 rfl (Nat.le_of_ble_eq_true rfl) rfl ?_
                refine z_iinc (v := nI (wh + 1)) (L2 := [some (.ref r), some (.int (nI W)), some (.int 0), some (.int (nI (wh + 1)))]) C dX12_isOfForm_48 rfl (nI_1 wh) rfl ?_
                refine z_goto 12 C dX12_isOfForm_51 (by decide) ?_
                refine z_iload_n C dX12_isOfForm_12 rfl rfl ?_
                refine z_iload_n C dX12_isOfForm_13 rfl rfl ?_
                refine z_icmp_ge 54 C dX12_isOfForm_14 (by decide) (fun g1 => ?_) (fun g1 => ?_)
                · refine z_forget (L' := [some (.ref r), some (.int (nI W)), some (.int 0), none]) ⟨Or.inr rfl, Or.inr rfl, Or.inr rfl, Or.inl rfl, trivial⟩ ?_
                  exact F0 (p2) (f2) (by rw [← hR]; exact (if_pos ⟨hw0, ha⟩).symm)
                · refine z_iload_n C dX12_isOfForm_17 rfl rfl ?_
                  refine z_if_eq 54 C dX12_isOfForm_18 (by decide) (fun g2 => ?_) (fun g2 => ?_)
                  · refine z_forget (L' := [some (.ref r), some (.int (nI W)), some (.int 0), none]) ⟨Or.inr rfl, Or.inr rfl, Or.inr rfl, Or.inl rfl, trivial⟩ ?_
                    exact F0 (p2) (f2) (by rw [← hR]; exact (if_pos ⟨hw0, ha⟩).symm)
                  · exact absurd rfl g2
              · refine z_go (Γ' := [eO r 11 [.ref tr, .ref na, .int (nI (p2 + 1)), .int be, .int re, .int ca, .int mn, .ref a], eO a 0 [.ref ma, .ref dq, .ref sb], eSB E sb sv sN ml tx.length tf, eIA E na 3 f2, rs]) (by rw [ha]; rfl) ?_
                have hp3 : p2 + 1 ≤ tx.length := gAcc_lt ha
                refine z_pick (Γ' := [eO r 11 [.ref tr, .ref na, .int (nI (p2 + 1)), .int be, .int re, .int ca, .int mn, .ref a], eIA E na 3 f2, eO a 0 [.ref ma, .ref dq, .ref sb], eSB E sb sv sN ml tx.length tf, rs]) [0, 3, 1, 2, 4] (ePm 5 rfl (by decide +kernel)) rfl ?_
                refine z_aload_n C dX12_isOfForm_34 rfl rfl ?_
                refine z_iload_n C dX12_isOfForm_35 rfl rfl ?_
                refine z_callV (r := (RX12, TX12, 8)) (As := [.int (nI wh)]) (rest := []) (Δ := [rs]) [0, 1, 2, 3] [4] 1 (m_reads hl E r tr na a ma dq sb sv sN ml tx tf hN hn htx h126 be re ca mn (p2 + 1) hp3 f2 wh (by omega)) C dX12_isOfForm_36 rfl rfl (eIn (i := 0) rfl List.mem_cons_self) rfl rfl q1650 q1652 qs26 q91 q1653 (by decide +kernel) rfl (ePm 5 rfl (by decide +kernel)) rfl rfl ⟨Nat.le_of_ble_eq_true rfl, Nat.le_of_ble_eq_true rfl⟩ (Nat.le_trans eS0 (Nat.le_of_ble_eq_true rfl)) ⟨Nat.le_of_ble_eq_true rfl, Nat.le_of_ble_eq_true rfl⟩ (fun v_ Γ_ hp_ => ?_)
                obtain ⟨rfl, rfl⟩ := hp_
                show eZ x E _ [eO r 11 [.ref tr, .ref na, .int (nI (gRd tx 3 (p2 + 1) 0).1), .int be, .int re, .int ca, .int mn, .ref a], eIA E na 3 (upd f2 wh (gRd tx 3 (p2 + 1) 0).2), eO a 0 [.ref ma, .ref dq, .ref sb], eSB E sb sv sN ml tx.length tf, rs] 39 [some (.ref r), some (.int (nI W)), some (.int 1), some (.int (nI wh))] [.int (eB (decide (p2 + 1 < (gRd tx 3 (p2 + 1) 0).1)))] 0 0
                refine z_if_eq_B 46 C dX12_isOfForm_39 (by decide) (fun k1 => ?_) (fun k1 => ?_)
                · refine z_iconst (v := 0) C dX12_isOfForm_46 (by decide) ?_
                  refine z_istore_n (L2 := [some (.ref r), some (.int (nI W)), some (.int 0), some (.int (nI wh))]) C dX12_isOfForm_47 rfl (Nat.le_of_ble_eq_true rfl) rfl ?_
                  refine z_iinc (v := nI (wh + 1)) (L2 := [some (.ref r), some (.int (nI W)), some (.int 0), some (.int (nI (wh + 1)))]) C dX12_isOfForm_48 rfl (nI_1 wh) rfl ?_
                  refine z_goto 12 C dX12_isOfForm_51 (by decide) ?_
                  refine z_iload_n C dX12_isOfForm_12 rfl rfl ?_
                  refine z_iload_n C dX12_isOfForm_13 rfl rfl ?_
                  refine z_icmp_ge 54 C dX12_isOfForm_14 (by decide) (fun g1 => ?_) (fun g1 => ?_)
                  · refine z_forget (L' := [some (.ref r), some (.int (nI W)), some (.int 0), none]) ⟨Or.inr rfl, Or.inr rfl, Or.inr rfl, Or.inl rfl, trivial⟩ ?_
                    exact F0 ((gRd tx 3 (p2 + 1) 0).1) (upd f2 wh (gRd tx 3 (p2 + 1) 0).2) (by rw [← hR]; exact (gFm_1f hw0 ha (of_decide_eq_false k1)).symm)
                  · refine z_iload_n C dX12_isOfForm_17 rfl rfl ?_
                    refine z_if_eq 54 C dX12_isOfForm_18 (by decide) (fun g2 => ?_) (fun g2 => ?_)
                    · refine z_forget (L' := [some (.ref r), some (.int (nI W)), some (.int 0), none]) ⟨Or.inr rfl, Or.inr rfl, Or.inr rfl, Or.inl rfl, trivial⟩ ?_
                      exact F0 ((gRd tx 3 (p2 + 1) 0).1) (upd f2 wh (gRd tx 3 (p2 + 1) 0).2) (by rw [← hR]; exact (gFm_1f hw0 ha (of_decide_eq_false k1)).symm)
                    · exact absurd rfl g2
                · refine z_iconst (v := 1) C dX12_isOfForm_42 (by decide) ?_
                  refine z_goto 47 C dX12_isOfForm_43 (by decide) ?_
                  refine z_istore_n (L2 := [some (.ref r), some (.int (nI W)), some (.int 1), some (.int (nI wh))]) C dX12_isOfForm_47 rfl (Nat.le_of_ble_eq_true rfl) rfl ?_
                  refine z_iinc (v := nI (wh + 1)) (L2 := [some (.ref r), some (.int (nI W)), some (.int 1), some (.int (nI (wh + 1)))]) C dX12_isOfForm_48 rfl (nI_1 wh) rfl ?_
                  refine z_goto 12 C dX12_isOfForm_51 (by decide) ?_
                  exact ih (wh + 1) _ _ (by omega) (gRd_le tx 3 (p2 + 1) 0 hp3).2.1 (by rw [← hR]; exact (gFm_1t hw0 ha (of_decide_eq_true k1)).symm)
    exact K W 0 p f (by omega) hp rfl
