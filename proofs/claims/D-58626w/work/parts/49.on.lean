/-! ===== the reader: one order ===== -/
set_option maxRecDepth 100000
def gW (c : Nat) : Nat := if c = 101 then 3 else if c = 115 ∨ c = 108 ∨ c = 116 then 2 else if c = 99 ∨ c = 114 then 1 else 0
def gP1 (c p : Nat) : Nat := p + (if gW c = 0 then 0 else 1)
/-- an order at p: reason, cause, place, how many more, machine; and the numbers -/
def gOneR (tx : List Nat) (p ch : Nat) (f : Nat → Int32) (A : Am) : Int32 × Int32 × Nat × Int32 × Am :=
  if (gOF tx (gW ch) (gP1 ch p) f).1 = false then (1, nI (gOF tx (gW ch) (gP1 ch p) f).2.1 - nI p, (gOF tx (gW ch) (gP1 ch p) f).2.1, 0, A)
  else match gDone (nI ch) A (gOF tx (gW ch) (gP1 ch p) f).2.2 with
    | .inl code => (2, code, (gOF tx (gW ch) (gP1 ch p) f).2.1, 0, A)
    | .inr (_, A2) => (0, 0, (gOF tx (gW ch) (gP1 ch p) f).2.1, 1, A2)
theorem gW_e : ∀ c : Nat, c < 128 → nI c = 101 → gW c = 3 := by decide +kernel
theorem gW_s : ∀ c : Nat, c < 128 → nI c ≠ 101 → ¬ gIx 0 (nI c) < 0 → gW c = 2 := by decide +kernel
theorem gW_c : ∀ c : Nat, c < 128 → nI c ≠ 101 → gIx 0 (nI c) < 0 → ¬ gIx 1 (nI c) < 0 → gW c = 1 := by decide +kernel
theorem gW_n : ∀ c : Nat, c < 128 → nI c ≠ 101 → gIx 0 (nI c) < 0 → gIx 1 (nI c) < 0 → gW c = 0 := by decide +kernel
theorem gW_3 (c : Nat) : gW c ≤ 3 := by unfold gW; split; omega; split; omega; split <;> omega
theorem gW_l (c : Nat) (h : gW c ≠ 0) : c = 101 ∨ c = 115 ∨ c = 108 ∨ c = 116 ∨ c = 99 ∨ c = 114 := by
  unfold gW at h
  repeat' split at h
  all_goals omega
theorem gFm_le (tx : List Nat) (k : Nat) : ∀ (wh p : Nat) (f : Nat → Int32), p ≤ tx.length → p ≤ (gFm tx k wh p f).2.1 ∧ (gFm tx k wh p f).2.1 ≤ tx.length := by
  induction k with
  | zero => intro wh p f hp; exact ⟨Nat.le_refl _, hp⟩
  | succ k ih =>
    intro wh p f hp
    rw [gFm]
    by_cases hw : wh = 0
    · rw [if_neg (fun h => h.1 hw)]
      simp only [if_pos hw]
      have h9 := gRd_le tx 3 p 0 hp
      split
      · have h8 := ih (wh + 1) _ (upd f wh (gRd tx 3 p 0).2) h9.2.1
        exact ⟨by omega, h8.2⟩
      · exact ⟨h9.1, h9.2.1⟩
    · by_cases ha : gAcc tx p 44 = false
      · rw [if_pos ⟨hw, ha⟩]; exact ⟨Nat.le_refl _, hp⟩
      · rw [if_neg (fun h => ha h.2)]
        simp only [if_neg hw]
        have hlt : p + 1 ≤ tx.length := gAcc_lt (by cases h : gAcc tx p 44 with | true => rfl | false => exact absurd h ha)
        have h9 := gRd_le tx 3 (p + 1) 0 hlt
        split
        · have h8 := ih (wh + 1) _ (upd f wh (gRd tx 3 (p + 1) 0).2) h9.2.1
          exact ⟨by omega, h8.2⟩
        · dsimp only; exact ⟨by omega, h9.2.1⟩
theorem gOF_le (tx : List Nat) (W p : Nat) (f : Nat → Int32) (hp : p ≤ tx.length) : p ≤ (gOF tx W p f).2.1 ∧ (gOF tx W p f).2.1 ≤ tx.length := by
  unfold gOF
  have h9 := gFm_le tx W 0 p f hp
  split
  · exact ⟨Nat.le_refl _, hp⟩
  · split
    · dsimp only
      by_cases ha : gAcc tx (gFm tx W 0 p f).2.1 59 = true
      · rw [if_pos ha]; have := gAcc_lt ha; exact ⟨by omega, by omega⟩
      · rw [if_neg ha]; exact ⟨by omega, by omega⟩
    · exact h9
theorem gRd_same {tx : List Nat} {k p : Nat} {v : Int32} (hp : p ≤ tx.length) (h : (gRd tx k p v).1 = p) : (gRd tx k p v).2 = v := by
  cases k with
  | zero => rfl
  | succ k =>
    unfold gRd at h ⊢
    rcases hx : tx[p]? with _ | c
    · rfl
    · rw [hx] at h
      dsimp only at h ⊢
      split
      · rename_i hc
        rw [if_pos hc] at h
        have hlt : p < tx.length := (List.getElem?_eq_some_iff.mp hx).1
        have h9 := (gRd_le tx k (p + 1) (10 * v + nI c - 48) hlt).1
        omega
      · rfl
theorem gM_dig : ∀ c : Nat, c < 58 → 48 ≤ c → gM (10 * 0 + nI c - 48) ≤ 9 := by decide +kernel
theorem gRd_one {tx : List Nat} {p : Nat} (hp : p ≤ tx.length) (h : (gRd tx 3 p 0).1 = p + 1) : gM (gRd tx 3 p 0).2 ≤ 9 := by
  rcases hx : tx[p]? with _ | c
  · rw [gRd, hx] at h; dsimp only at h; omega
  · have hlt : p < tx.length := (List.getElem?_eq_some_iff.mp hx).1
    by_cases hc : 48 ≤ c ∧ c ≤ 57
    · rw [gRd_digit hx hc] at h ⊢
      rw [gRd_same hlt h]
      exact gM_dig c (by omega) hc.1
    · rw [gRd, hx] at h; dsimp only at h; rw [if_neg hc] at h; dsimp only at h; omega
theorem gOF_room {tx : List Nat} {p : Nat} {f : Nat → Int32} (hp : p ≤ tx.length) (h : (gOF tx 1 p f).1 = true) : 2 + 17 * gM ((gOF tx 1 p f).2.2 0) ≤ 213 * ((gOF tx 1 p f).2.1 + 1 - p) ∧ 14 + 88 * gM ((gOF tx 1 p f).2.2 0) ≤ 1104 * ((gOF tx 1 p f).2.1 + 1 - p) ∧ p + 2 ≤ (gOF tx 1 p f).2.1 := by
  by_cases hlt : p < (gRd tx 3 p 0).1
  · have hF : gFm tx 1 0 p f = (true, (gRd tx 3 p 0).1, upd f 0 (gRd tx 3 p 0).2) := by rw [gFm_0t hlt]; rfl
    have hO : gOF tx 1 p f = (gAcc tx (gRd tx 3 p 0).1 59, (gRd tx 3 p 0).1 + (if gAcc tx (gRd tx 3 p 0).1 59 = true then 1 else 0), upd f 0 (gRd tx 3 p 0).2) := by rw [gOF, hF]; rfl
    rw [hO] at h ⊢
    dsimp only at h ⊢
    rw [if_pos h, upd_self_]
    have h50 := gM_le (gRd tx 3 p 0).2
    rcases Nat.lt_or_ge (p + 1) (gRd tx 3 p 0).1 with h2 | h2
    · omega
    · have h3 := gRd_one hp (by omega)
      omega
  · have hF : gFm tx 1 0 p f = (false, (gRd tx 3 p 0).1, upd f 0 (gRd tx 3 p 0).2) := gFm_0f hlt
    have hO : (gOF tx 1 p f).1 = false := by rw [gOF, hF]; rfl
    rw [hO] at h; cases h
theorem gRd_two {tx : List Nat} {W p : Nat} {f : Nat → Int32} (hW : W ≠ 0) (h : (gOF tx W p f).1 = true) : p < (gRd tx 3 p 0).1 := by
  rcases Nat.lt_or_ge p (gRd tx 3 p 0).1 with hlt | hge
  · exact hlt
  · obtain ⟨W, rfl⟩ : ∃ k, W = k + 1 := ⟨W - 1, by omega⟩
    have hF := gFm_0f (tx := tx) (k := W) (f := f) (Nat.not_lt.mpr hge)
    rw [gOF, if_neg hW, hF] at h
    cases h

theorem gOneR_q {tx : List Nat} {p ch q : Nat} {ok : Bool} {f f2 : Nat → Int32} {A : Am} (h : gOF tx (gW ch) (gP1 ch p) f = (ok, q, f2)) : (gOneR tx p ch f A).2.2.1 = q := by
  unfold gOneR
  rw [h]
  split
  · rfl
  · split <;> rfl

set_option maxHeartbeats 4000000 in
theorem m_one {l : Launch} (hl : l.stackTraces = false) (E : eEn) (r na a ma dq sb sv sN : Nat) (ml : Int32) (tx : List Nat) (tf : Nat → Int32) (hN : sN ≤ 122) (hn : tx.length ≤ sN) (htx : ∀ i c, tx[i]? = some c → tf i = nI c) (h126 : ∀ c ∈ tx, 32 ≤ c ∧ c ≤ 126) (c : Cm) (S : List (Nat × Enr)) (hok : gOk c.abs) (hS : eBkS c S) (f : Nat → Int32) (mn : Int32) (p ch : Nat) (hc : tx[p]? = some ch)  : eMetX l E yX12_one (wsW_ yX12_one cX12_one 4 none [(98, 121, 124, 94)]) ({ frames := 13, cells := 213 * ((gOneR tx p ch f c.abs).2.2.1 - p), slots := 1104 * ((gOneR tx p ch f c.abs).2.2.1 - p), locals := 262 }) [.ref r] [eO r 11 [.ref c.a, .ref na, .int (nI p), .int (nI p), .int 0, .int 0, .int mn, .ref a], eIA E na 3 f, eMac E c, eO a 0 [.ref ma, .ref dq, .ref sb], eSB E sb sv sN ml tx.length tf, eSto S] (fun w Γ => w = none ∧ ∃ c2 S2, Γ = [eRd r c2.a na (nI (gOneR tx p ch f c.abs).2.2.1) (nI p) (gOneR tx p ch f c.abs).1 (gOneR tx p ch f c.abs).2.1 (mn + (gOneR tx p ch f c.abs).2.2.2.1) a, eIA E na 3 (gOF tx (gW ch) (gP1 ch p) f).2.2, eMac E c2, eO a 0 [.ref ma, .ref dq, .ref sb], eSB E sb sv sN ml tx.length tf, eSto S2] ∧ c2.abs = (gOneR tx p ch f c.abs).2.2.2.2 ∧ eBkS c2 S2 ∧ (∀ z ∈ S, z ∈ S2) ∧ c2.a = c.a) (fun _ _ _ => False) := by
  refine eStartW (cc := cX12_one) (nL := 4) (L := [some (.ref r), none, none, none]) hl (by decide) rfl (List.forall_mem_cons.mpr ⟨rfl, (fun _ h => absurd h List.not_mem_nil)⟩) (Nat.le_of_ble_eq_true rfl) ?_
  intro x rs C hT
  show eZ x E (eQX x E (fun w Γ => w = none ∧ ∃ c2 S2, Γ = [eRd r c2.a na (nI (gOneR tx p ch f c.abs).2.2.1) (nI p) (gOneR tx p ch f c.abs).1 (gOneR tx p ch f c.abs).2.1 (mn + (gOneR tx p ch f c.abs).2.2.2.1) a, eIA E na 3 (gOF tx (gW ch) (gP1 ch p) f).2.2, eMac E c2, eO a 0 [.ref ma, .ref dq, .ref sb], eSB E sb sv sN ml tx.length tf, eSto S2] ∧ c2.abs = (gOneR tx p ch f c.abs).2.2.2.2 ∧ eBkS c2 S2 ∧ (∀ z ∈ S, z ∈ S2) ∧ c2.a = c.a) (fun _ _ _ => False) rs) [eO r 11 [.ref c.a, .ref na, .int (nI p), .int (nI p), .int 0, .int 0, .int mn, .ref a], eIA E na 3 f, eMac E c, eO a 0 [.ref ma, .ref dq, .ref sb], eSB E sb sv sN ml tx.length tf, eSto S, rs] 0 [some (.ref r), none, none, none] [] 0 0
  generalize hQ_ : eQX x E (fun w Γ => w = none ∧ ∃ c2 S2, Γ = [eRd r c2.a na (nI (gOneR tx p ch f c.abs).2.2.1) (nI p) (gOneR tx p ch f c.abs).1 (gOneR tx p ch f c.abs).2.1 (mn + (gOneR tx p ch f c.abs).2.2.2.1) a, eIA E na 3 (gOF tx (gW ch) (gP1 ch p) f).2.2, eMac E c2, eO a 0 [.ref ma, .ref dq, .ref sb], eSB E sb sv sN ml tx.length tf, eSto S2] ∧ c2.abs = (gOneR tx p ch f c.abs).2.2.2.2 ∧ eBkS c2 S2 ∧ (∀ z ∈ S, z ∈ S2) ∧ c2.a = c.a) (fun _ _ _ => False) rs = Q_
  have hlt : p < tx.length := (List.getElem?_eq_some_iff.mp hc).1
  have hc6 := h126 ch (List.mem_of_getElem? hc)
  refine z_aload_n C dX12_one_0 rfl rfl ?_
  refine z_get eK11 0 7 C dX12_one_1 rfl rfl q1552 (eSame1 rfl) (by decide) rfl ?_
  refine z_getN eK0 3 2 C dX12_one_4 rfl rfl q401 (eSame1 rfl) (by decide) rfl ?_
  refine z_aload_n C dX12_one_7 rfl rfl ?_
  refine z_get eK11 0 2 C dX12_one_8 rfl rfl q1543 (eSame1 rfl) (by decide) rfl ?_
  refine z_callV (r := (RJ10, TJ10, 4)) (As := [.int (nI p)]) (rest := []) (Δ := [eO r 11 [.ref c.a, .ref na, .int (nI p), .int (nI p), .int 0, .int 0, .int mn, .ref a], eIA E na 3 f, eMac E c, eO a 0 [.ref ma, .ref dq, .ref sb], eSto S, rs]) [4] [0, 1, 2, 3, 5, 6] 1 (m_SB_charAt hl E sb sv sN ml tx.length tf (by omega) hn p hlt ch (by omega) (htx _ _ hc)) C dX12_one_11 rfl rfl (eIn (i := 4) rfl eSB_mem) rfl rfl q1580 q1581 q1582 q64 q1583 (by decide +kernel) rfl (ePm 7 rfl (by decide +kernel)) rfl rfl ⟨Nat.le_of_ble_eq_true rfl, Nat.le_of_ble_eq_true rfl⟩ (Nat.le_trans eS0 (Nat.le_of_ble_eq_true rfl)) ⟨Nat.le_of_ble_eq_true rfl, Nat.le_of_ble_eq_true rfl⟩ (fun v_ Γ_ hp_ => ?_)
  obtain ⟨rfl, rfl⟩ := hp_
  show eZ x E _ [eSB E sb sv sN ml tx.length tf, eO r 11 [.ref c.a, .ref na, .int (nI p), .int (nI p), .int 0, .int 0, .int mn, .ref a], eIA E na 3 f, eMac E c, eO a 0 [.ref ma, .ref dq, .ref sb], eSto S, rs] 14 [some (.ref r), none, none, none] [.int (nI ch)] 0 0
  refine z_istore_n (L2 := [some (.ref r), some (.int (nI ch)), none, none]) C dX12_one_14 rfl (Nat.le_of_ble_eq_true rfl) rfl ?_
  suffices J_ : eZ x E Q_ [eSB E sb sv sN ml tx.length tf, eO r 11 [.ref c.a, .ref na, .int (nI p), .int (nI p), .int 0, .int 0, .int mn, .ref a], eIA E na 3 f, eMac E c, eO a 0 [.ref ma, .ref dq, .ref sb], eSto S, rs] 52 [some (.ref r), some (.int (nI ch)), none, none] [.int (nI (gW ch))] 0 0 by
    refine z_iload_n C dX12_one_15 rfl rfl ?_
    refine z_bipush (v := 101) C dX12_one_16 (by decide) ?_
    refine z_icmp_ne 25 C dX12_one_18 (by decide) (fun h1 => ?_) (fun h1 => ?_)
    · refine z_ldcS C dX12_one_25 rfl C.2.2.2.2.2.2.2.1.2.2.2.2.2.2.1 ?_
      refine z_iload_n C dX12_one_27 rfl rfl ?_
      refine z_callVs (As := [.int (nI ch)]) (rest := []) (Δ := [eSB E sb sv sN ml tx.length tf, eO r 11 [.ref c.a, .ref na, .int (nI p), .int (nI p), .int 0, .int 0, .int mn, .ref a], eIA E na 3 f, eMac E c, eO a 0 [.ref ma, .ref dq, .ref sb], eSto S, rs]) 0 (by decide) [] [0, 1, 2, 3, 4, 5, 6] 1 (m_Str0_indexOf hl E ch (by omega)) C dX12_one_28 rfl rfl rfl rfl q1591 q1592 q1593 q65 q1594 (by decide +kernel) rfl (ePm 7 rfl (by decide +kernel)) rfl rfl ⟨Nat.le_of_ble_eq_true rfl, Nat.le_of_ble_eq_true rfl⟩ (Nat.le_trans eS0 (Nat.le_of_ble_eq_true rfl)) ⟨Nat.le_of_ble_eq_true rfl, Nat.le_of_ble_eq_true rfl⟩ (fun v_ Γ_ hp_ => ?_)
      obtain ⟨rfl, rfl⟩ := hp_
      show eZ x E _ [eSB E sb sv sN ml tx.length tf, eO r 11 [.ref c.a, .ref na, .int (nI p), .int (nI p), .int 0, .int 0, .int mn, .ref a], eIA E na 3 f, eMac E c, eO a 0 [.ref ma, .ref dq, .ref sb], eSto S, rs] 31 [some (.ref r), some (.int (nI ch)), none, none] [.int (gIx 0 (nI ch))] 0 0
      refine z_if_lt 38 C dX12_one_31 (by decide) (fun h2 => ?_) (fun h2 => ?_)
      · refine z_ldcS C dX12_one_38 rfl C.2.2.2.2.2.2.2.1.2.2.2.2.2.2.2.1 ?_
        refine z_iload_n C dX12_one_40 rfl rfl ?_
        refine z_callVs (As := [.int (nI ch)]) (rest := []) (Δ := [eSB E sb sv sN ml tx.length tf, eO r 11 [.ref c.a, .ref na, .int (nI p), .int (nI p), .int 0, .int 0, .int mn, .ref a], eIA E na 3 f, eMac E c, eO a 0 [.ref ma, .ref dq, .ref sb], eSto S, rs]) 1 (by decide) [] [0, 1, 2, 3, 4, 5, 6] 1 (m_Str1_indexOf hl E ch (by omega)) C dX12_one_41 rfl rfl rfl rfl q1591 q1592 q1593 q65 q1594 (by decide +kernel) rfl (ePm 7 rfl (by decide +kernel)) rfl rfl ⟨Nat.le_of_ble_eq_true rfl, Nat.le_of_ble_eq_true rfl⟩ (Nat.le_trans eS0 (Nat.le_of_ble_eq_true rfl)) ⟨Nat.le_of_ble_eq_true rfl, Nat.le_of_ble_eq_true rfl⟩ (fun v_ Γ_ hp_ => ?_)
        obtain ⟨rfl, rfl⟩ := hp_
        show eZ x E _ [eSB E sb sv sN ml tx.length tf, eO r 11 [.ref c.a, .ref na, .int (nI p), .int (nI p), .int 0, .int 0, .int mn, .ref a], eIA E na 3 f, eMac E c, eO a 0 [.ref ma, .ref dq, .ref sb], eSto S, rs] 44 [some (.ref r), some (.int (nI ch)), none, none] [.int (gIx 1 (nI ch))] 0 0
        refine z_if_lt 51 C dX12_one_44 (by decide) (fun h3 => ?_) (fun h3 => ?_)
        · refine z_iconst (v := 0) C dX12_one_51 (by decide) ?_
          refine z_is (w := nI (gW ch)) (by rw [gW_n ch (by omega) h1 h2 h3]; rfl) ?_
          exact J_
        · have h3' : ¬ gIx 1 (nI ch) < 0 := h3
          refine z_iconst (v := 1) C dX12_one_47 (by decide) ?_
          refine z_goto 52 C dX12_one_48 (by decide) ?_
          refine z_is (w := nI (gW ch)) (by rw [gW_c ch (by omega) h1 h2 h3']; rfl) ?_
          exact J_
      · have h2' : ¬ gIx 0 (nI ch) < 0 := h2
        refine z_iconst (v := 2) C dX12_one_34 (by decide) ?_
        refine z_goto 52 C dX12_one_35 (by decide) ?_
        refine z_is (w := nI (gW ch)) (by rw [gW_s ch (by omega) h1 h2']; rfl) ?_
        exact J_
    · refine z_iconst (v := 3) C dX12_one_21 (by decide) ?_
      refine z_goto 52 C dX12_one_22 (by decide) ?_
      refine z_is (w := nI (gW ch)) (by rw [gW_e ch (by omega) h1]; rfl) ?_
      exact J_
  refine z_istore_n (L2 := [some (.ref r), some (.int (nI ch)), some (.int (nI (gW ch))), none]) C dX12_one_52 rfl (Nat.le_of_ble_eq_true rfl) rfl ?_
  refine z_aload_n C dX12_one_53 rfl rfl ?_
  refine z_dup C dX12_one_54 rfl ?_
  refine z_get eK11 1 2 C dX12_one_55 rfl rfl q1543 (eSame1 rfl) (by decide) rfl ?_
  refine z_iload_n C dX12_one_58 rfl rfl ?_
  suffices J_ : eZ x E Q_ [eSB E sb sv sN ml tx.length tf, eO r 11 [.ref c.a, .ref na, .int (nI p), .int (nI p), .int 0, .int 0, .int mn, .ref a], eIA E na 3 f, eMac E c, eO a 0 [.ref ma, .ref dq, .ref sb], eSto S, rs] 67 [some (.ref r), some (.int (nI ch)), some (.int (nI (gW ch))), none] [.int (nI (if gW ch = 0 then 0 else 1)), .int (nI p), .ref r] 0 0 by
    refine z_if_ne 66 C dX12_one_59 (by decide) (fun h_ => ?_) (fun h_ => ?_)
    · refine z_iconst (v := 1) C dX12_one_66 (by decide) ?_
      refine z_is (w := nI (if gW ch = 0 then 0 else 1)) (by rw [if_neg (fun h => h_ (by rw [h]; rfl))]; rfl) ?_
      exact J_
    · refine z_iconst (v := 0) C dX12_one_62 (by decide) ?_
      refine z_goto 67 C dX12_one_63 (by decide) ?_
      refine z_is (w := nI (if gW ch = 0 then 0 else 1)) (by rw [if_pos (by rcases Nat.eq_zero_or_pos (gW ch) with h | h; exact h; exact absurd h_ (nI_ne0 h (by have := gW_3 ch; omega)))]; rfl) ?_
      exact J_
  refine z_iadd (w := nI (gP1 ch p)) C dX12_one_67 (nI_add _ _) ?_
  refine z_put eK11 1 2 (Γ2 := [eSB E sb sv sN ml tx.length tf, eO r 11 [.ref c.a, .ref na, .int (nI (gP1 ch p)), .int (nI p), .int 0, .int 0, .int mn, .ref a], eIA E na 3 f, eMac E c, eO a 0 [.ref ma, .ref dq, .ref sb], eSto S, rs]) C dX12_one_68 rfl rfl q1543 (eSame1 rfl) (by decide) rfl rfl rfl rfl (Nat.le_of_ble_eq_true rfl) rfl ?_
  refine z_aload_n C dX12_one_71 rfl rfl ?_
  refine z_iload_n C dX12_one_72 rfl rfl ?_
  have hp1 : p ≤ gP1 ch p ∧ gP1 ch p ≤ p + 1 := by unfold gP1; split <;> exact ⟨by omega, by omega⟩
  have hq := gOF_le tx (gW ch) (gP1 ch p) f (by omega)
  refine z_callV (r := (RX12, TX12, 8)) (As := [.int (nI (gW ch))]) (rest := []) (Δ := [eMac E c, eSto S, rs]) [1, 2, 4, 0] [3, 5, 6] 1 (m_isOfForm hl E r c.a na a ma dq sb sv sN ml tx tf hN hn htx h126 (nI p) 0 0 mn (gP1 ch p) (by omega) f (gW ch) (gW_3 ch)) C dX12_one_73 rfl rfl (eIn (i := 1) rfl List.mem_cons_self) rfl rfl q1642 q1644 qs24 q91 q1645 (by decide +kernel) rfl (ePm 7 rfl (by decide +kernel)) rfl rfl ⟨Nat.le_of_ble_eq_true rfl, Nat.le_of_ble_eq_true rfl⟩ (Nat.le_trans eS0 (Nat.le_of_ble_eq_true rfl)) ⟨Nat.le_of_ble_eq_true rfl, Nat.le_of_ble_eq_true rfl⟩ (fun v_ Γ_ hp_ => ?_)
  obtain ⟨rfl, rfl⟩ := hp_
  show eZ x E _ [eO r 11 [.ref c.a, .ref na, .int (nI (gOF tx (gW ch) (gP1 ch p) f).2.1), .int (nI p), .int 0, .int 0, .int mn, .ref a], eIA E na 3 ((gOF tx (gW ch) (gP1 ch p) f).2.2), eO a 0 [.ref ma, .ref dq, .ref sb], eSB E sb sv sN ml tx.length tf, eMac E c, eSto S, rs] 76 [some (.ref r), some (.int (nI ch)), some (.int (nI (gW ch))), none] [.int (eB (gOF tx (gW ch) (gP1 ch p) f).1)] 0 0
  obtain ⟨ok, q, f2, hR⟩ : ∃ ok q f2, gOF tx (gW ch) (gP1 ch p) f = (ok, q, f2) := ⟨_, _, _, rfl⟩
  rw [hR] at hq
  have hG : ∀ A, gOneR tx p ch f A = (if ok = false then ((1 : Int32), nI q - nI p, q, (0 : Int32), A) else match gDone (nI ch) A f2 with | .inl code => (2, code, q, 0, A) | .inr (_, A2) => (0, 0, q, 1, A2)) := fun A => by unfold gOneR; rw [hR]
  rw [hR]
  show eZ x E _ [eO r 11 [.ref c.a, .ref na, .int (nI q), .int (nI p), .int 0, .int 0, .int mn, .ref a], eIA E na 3 f2, eO a 0 [.ref ma, .ref dq, .ref sb], eSB E sb sv sN ml tx.length tf, eMac E c, eSto S, rs] 76 [some (.ref r), some (.int (nI ch)), some (.int (nI (gW ch))), none] [.int (eB ok)] 0 0
  refine z_if_ne_B 98 C dX12_one_76 (by decide) (fun hok_ => ?_) (fun hok_ => ?_)
  · subst hok_
    have hW0 : gW ch ≠ 0 := fun h => by rw [h, gOF, if_pos rfl] at hR; cases hR
    rcases gW_l ch hW0 with hl_ | hl_ | hl_ | hl_ | hl_ | hl_
    · subst hl_
      show eZ x E _ [eO r 11 [.ref c.a, .ref na, .int (nI q), .int (nI p), .int 0, .int 0, .int mn, .ref a], eIA E na 3 f2, eO a 0 [.ref ma, .ref dq, .ref sb], eSB E sb sv sN ml tx.length tf, eMac E c, eSto S, rs] 98 [some (.ref r), some (.int 101), some (.int (nI (gW 101))), none] [] 0 0
      have hrd := gRd_two hW0 (by rw [hR])
      dsimp only at hq
      have hp1e : gP1 101 p = p + 1 := rfl
      rw [hp1e] at hq
      refine z_aload_n C dX12_one_98 rfl rfl ?_
      refine z_get eK11 0 0 C dX12_one_99 rfl rfl q1540 (eSame1 rfl) (by decide) rfl ?_
      refine z_iload_n C dX12_one_102 rfl rfl ?_
      refine z_aload_n C dX12_one_103 rfl rfl ?_
      refine z_get eK11 0 1 C dX12_one_104 rfl rfl q1542 (eSame1 rfl) (by decide) rfl ?_
      refine z_callSNX (As := [.ref c.a, .int 101, .ref na]) (rest := []) (Δ := [eO r 11 [.ref c.a, .ref na, .int (nI q), .int (nI p), .int 0, .int 0, .int mn, .ref a], eO a 0 [.ref ma, .ref dq, .ref sb], eSB E sb sv sN ml tx.length tf, rs]) [4, 1, 5] [0, 2, 3, 6] 3 (m_done_e hl E c S hok hS na 3 f2 (by decide) (by decide)) C dX12_one_107 rfl rfl rfl q1657 q974 q49 q975 (by decide +kernel) rfl (ePm 7 rfl (by decide +kernel)) rfl rfl ⟨Nat.le_of_ble_eq_true rfl, Nat.le_of_ble_eq_true rfl⟩ (Nat.le_trans eS0 (Nat.le_of_ble_eq_true rfl)) ⟨by (try dsimp only); rw [gOneR_q hR]; omega, by (try dsimp only); rw [gOneR_q hR]; omega⟩ (fun q_ En_ Γ_ hx_ => ?_) (fun v_ Γ_ hp_ => ?_)
      · obtain ⟨code, he, rfl, r1, r2, rfl⟩ := hx_
        have he2 : gDone (nI 101) c.abs f2 = .inl code := he
        show eY x E _ [eRfB E q_ code r1 r2, eMac E c, eIA E na 3 f2, eSto S, eO r 11 [.ref c.a, .ref na, .int (nI q), .int (nI p), .int 0, .int 0, .int mn, .ref a], eO a 0 [.ref ma, .ref dq, .ref sb], eSB E sb sv sN ml tx.length tf, rs] 107 [some (.ref r), some (.int 101), some (.int (nI (gW 101))), none] [] q_ 4 23
        show eY x E _ [eO q_ 6 [.ref q_, va_rf r1, va_rf r2, .ref (E.2.2.2 12), .null, .int 0, .int code], eMac E c, eIA E na 3 f2, eSto S, eO r 11 [.ref c.a, .ref na, .int (nI q), .int (nI p), .int 0, .int 0, .int mn, .ref a], eO a 0 [.ref ma, .ref dq, .ref sb], eSB E sb sv sN ml tx.length tf, rs] 107 [some (.ref r), some (.int 101), some (.int (nI (gW 101))), none] [] q_ 4 23
        refine z_catch C hT (by decide) (by decide) rfl q1579 q1005 (eIn (i := 0) rfl List.mem_cons_self) (show eCl[6]? = some _ from rfl) ?_
        show eZ x E _ [eO q_ 6 [.ref q_, va_rf r1, va_rf r2, .ref (E.2.2.2 12), .null, .int 0, .int code], eMac E c, eIA E na 3 f2, eSto S, eO r 11 [.ref c.a, .ref na, .int (nI q), .int (nI p), .int 0, .int 0, .int mn, .ref a], eO a 0 [.ref ma, .ref dq, .ref sb], eSB E sb sv sN ml tx.length tf, rs] 124 [some (.ref r), some (.int 101), some (.int (nI (gW 101))), none] [.ref q_] 4 23
        refine z_astore_n (L2 := [some (.ref r), some (.int 101), some (.int (nI (gW 101))), some (.ref q_)]) C dX12_one_124 rfl (Nat.le_of_ble_eq_true rfl) rfl ?_
        refine z_aload_n C dX12_one_125 rfl rfl ?_
        refine z_iconst (v := 2) C dX12_one_126 (by decide) ?_
        refine z_put eK11 4 4 (Γ2 := [eO q_ 6 [.ref q_, va_rf r1, va_rf r2, .ref (E.2.2.2 12), .null, .int 0, .int code], eMac E c, eIA E na 3 f2, eSto S, eO r 11 [.ref c.a, .ref na, .int (nI q), .int (nI p), .int 2, .int 0, .int mn, .ref a], eO a 0 [.ref ma, .ref dq, .ref sb], eSB E sb sv sN ml tx.length tf, rs]) C dX12_one_127 rfl rfl q1546 (eSame1 rfl) (by decide) rfl rfl rfl rfl (Nat.le_of_ble_eq_true rfl) rfl ?_
        refine z_aload_n C dX12_one_130 rfl rfl ?_
        refine z_aload_n C dX12_one_131 rfl rfl ?_
        refine z_getN eK6 0 6 C dX12_one_132 rfl rfl q1023 (eSame1 rfl) (by decide) rfl ?_
        refine z_put eK11 4 5 (Γ2 := [eO q_ 6 [.ref q_, va_rf r1, va_rf r2, .ref (E.2.2.2 12), .null, .int 0, .int code], eMac E c, eIA E na 3 f2, eSto S, eO r 11 [.ref c.a, .ref na, .int (nI q), .int (nI p), .int 2, .int code, .int mn, .ref a], eO a 0 [.ref ma, .ref dq, .ref sb], eSB E sb sv sN ml tx.length tf, rs]) C dX12_one_135 rfl rfl q1548 (eSame1 rfl) (by decide) rfl rfl rfl rfl (Nat.le_of_ble_eq_true rfl) rfl ?_
        refine z_pick (Γ' := [eO q_ 6 [.ref q_, va_rf r1, va_rf r2, .ref (E.2.2.2 12), .null, .int 0, .int code], eO r 11 [.ref c.a, .ref na, .int (nI q), .int (nI p), .int 2, .int code, .int mn, .ref a], eIA E na 3 f2, eMac E c, eO a 0 [.ref ma, .ref dq, .ref sb], eSB E sb sv sN ml tx.length tf, eSto S, rs]) [0, 4, 2, 1, 5, 6, 3, 7] (ePm 8 rfl (by decide +kernel)) rfl ?_
        refine z_drop ?_
        show eZ x E _ [eO r 11 [.ref c.a, .ref na, .int (nI q), .int (nI p), .int 2, .int code, .int mn, .ref a], eIA E na 3 f2, eMac E c, eO a 0 [.ref ma, .ref dq, .ref sb], eSB E sb sv sN ml tx.length tf, eSto S, rs] 138 [some (.ref r), some (.int 101), some (.int (nI (gW 101))), some (.ref q_)] [] 4 23
        subst hQ_
        refine z_X ?_
        exact z_vret (Γ := [eO r 11 [.ref c.a, .ref na, .int (nI q), .int (nI p), .int 2, .int code, .int mn, .ref a], eIA E na 3 f2, eMac E c, eO a 0 [.ref ma, .ref dq, .ref sb], eSB E sb sv sN ml tx.length tf, eSto S]) C dX12_one_138 rfl (by (try dsimp only); rw [gOneR_q hR]; omega) (by (try dsimp only); rw [gOneR_q hR]; omega) ⟨rfl, c, S, by rw [hG, if_neg (fun h => by cases h), he2, hR]; first | done | (dsimp only; rw [Int32.add_zero]) | rfl, by rw [hG, if_neg (fun h => by cases h), he2], hS, fun z h => h, rfl⟩
      obtain ⟨rv, A2, c3, S3, he, rfl, rfl, ha3, hca3, hS3, hSS⟩ := hp_
      have he2 : gDone (nI 101) c.abs f2 = .inr (rv, A2) := he
      rw [← hca3]
      show eZ x E _ [eMac E c3, eIA E na 3 f2, eSto S3, eO r 11 [.ref c3.a, .ref na, .int (nI q), .int (nI p), .int 0, .int 0, .int mn, .ref a], eO a 0 [.ref ma, .ref dq, .ref sb], eSB E sb sv sN ml tx.length tf, rs] 110 [some (.ref r), some (.int 101), some (.int (nI (gW 101))), none] [.int rv] 4 23
      refine z_istore_n (L2 := [some (.ref r), some (.int 101), some (.int (nI (gW 101))), some (.int rv)]) C dX12_one_110 rfl (Nat.le_of_ble_eq_true rfl) rfl ?_
      refine z_aload_n C dX12_one_111 rfl rfl ?_
      refine z_dup C dX12_one_112 rfl ?_
      refine z_get eK11 3 6 C dX12_one_113 rfl rfl q1550 (eSame1 rfl) (by decide) rfl ?_
      refine z_iconst (v := 1) C dX12_one_116 (by decide) ?_
      refine z_iadd (w := mn + 1) C dX12_one_117 rfl ?_
      refine z_put eK11 3 6 (Γ2 := [eMac E c3, eIA E na 3 f2, eSto S3, eO r 11 [.ref c3.a, .ref na, .int (nI q), .int (nI p), .int 0, .int 0, .int (mn + 1), .ref a], eO a 0 [.ref ma, .ref dq, .ref sb], eSB E sb sv sN ml tx.length tf, rs]) C dX12_one_118 rfl rfl q1550 (eSame1 rfl) (by decide) rfl rfl rfl rfl (Nat.le_of_ble_eq_true rfl) rfl ?_
      refine z_goto 138 C dX12_one_121 (by decide) ?_
      refine z_pick (Γ' := [eO r 11 [.ref c3.a, .ref na, .int (nI q), .int (nI p), .int 0, .int 0, .int (mn + 1), .ref a], eIA E na 3 f2, eMac E c3, eO a 0 [.ref ma, .ref dq, .ref sb], eSB E sb sv sN ml tx.length tf, eSto S3, rs]) [3, 1, 0, 4, 5, 2, 6] (ePm 7 rfl (by decide +kernel)) rfl ?_
      subst hQ_
      refine z_X ?_
      exact z_vret (Γ := [eO r 11 [.ref c3.a, .ref na, .int (nI q), .int (nI p), .int 0, .int 0, .int (mn + 1), .ref a], eIA E na 3 f2, eMac E c3, eO a 0 [.ref ma, .ref dq, .ref sb], eSB E sb sv sN ml tx.length tf, eSto S3]) C dX12_one_138 rfl (by (try dsimp only); rw [gOneR_q hR]; omega) (by (try dsimp only); rw [gOneR_q hR]; omega) ⟨rfl, c3, S3, by rw [hG, if_neg (fun h => by cases h), he2, hR]; first | done | rfl, by rw [hG, if_neg (fun h => by cases h), he2]; exact ha3, hS3, hSS, hca3⟩
    · subst hl_
      show eZ x E _ [eO r 11 [.ref c.a, .ref na, .int (nI q), .int (nI p), .int 0, .int 0, .int mn, .ref a], eIA E na 3 f2, eO a 0 [.ref ma, .ref dq, .ref sb], eSB E sb sv sN ml tx.length tf, eMac E c, eSto S, rs] 98 [some (.ref r), some (.int 115), some (.int (nI (gW 115))), none] [] 0 0
      have hrd := gRd_two hW0 (by rw [hR])
      dsimp only at hq
      have hp1e : gP1 115 p = p + 1 := rfl
      rw [hp1e] at hq
      refine z_aload_n C dX12_one_98 rfl rfl ?_
      refine z_get eK11 0 0 C dX12_one_99 rfl rfl q1540 (eSame1 rfl) (by decide) rfl ?_
      refine z_iload_n C dX12_one_102 rfl rfl ?_
      refine z_aload_n C dX12_one_103 rfl rfl ?_
      refine z_get eK11 0 1 C dX12_one_104 rfl rfl q1542 (eSame1 rfl) (by decide) rfl ?_
      refine z_callSNX (As := [.ref c.a, .int 115, .ref na]) (rest := []) (Δ := [eO r 11 [.ref c.a, .ref na, .int (nI q), .int (nI p), .int 0, .int 0, .int mn, .ref a], eO a 0 [.ref ma, .ref dq, .ref sb], eSB E sb sv sN ml tx.length tf, rs]) [4, 1, 5] [0, 2, 3, 6] 3 (m_done_s hl E c S hok hS na 3 f2 (by decide) (by decide)) C dX12_one_107 rfl rfl rfl q1657 q974 q49 q975 (by decide +kernel) rfl (ePm 7 rfl (by decide +kernel)) rfl rfl ⟨Nat.le_of_ble_eq_true rfl, Nat.le_of_ble_eq_true rfl⟩ (Nat.le_trans eS0 (Nat.le_of_ble_eq_true rfl)) ⟨by (try dsimp only); rw [gOneR_q hR]; omega, by (try dsimp only); rw [gOneR_q hR]; omega⟩ (fun q_ En_ Γ_ hx_ => ?_) (fun v_ Γ_ hp_ => ?_)
      · obtain ⟨code, he, rfl, r1, r2, rfl⟩ := hx_
        have he2 : gDone (nI 115) c.abs f2 = .inl code := he
        show eY x E _ [eRfB E q_ code r1 r2, eMac E c, eIA E na 3 f2, eSto S, eO r 11 [.ref c.a, .ref na, .int (nI q), .int (nI p), .int 0, .int 0, .int mn, .ref a], eO a 0 [.ref ma, .ref dq, .ref sb], eSB E sb sv sN ml tx.length tf, rs] 107 [some (.ref r), some (.int 115), some (.int (nI (gW 115))), none] [] q_ 2 14
        show eY x E _ [eO q_ 6 [.ref q_, va_rf r1, va_rf r2, .ref (E.2.2.2 12), .null, .int 0, .int code], eMac E c, eIA E na 3 f2, eSto S, eO r 11 [.ref c.a, .ref na, .int (nI q), .int (nI p), .int 0, .int 0, .int mn, .ref a], eO a 0 [.ref ma, .ref dq, .ref sb], eSB E sb sv sN ml tx.length tf, rs] 107 [some (.ref r), some (.int 115), some (.int (nI (gW 115))), none] [] q_ 2 14
        refine z_catch C hT (by decide) (by decide) rfl q1579 q1005 (eIn (i := 0) rfl List.mem_cons_self) (show eCl[6]? = some _ from rfl) ?_
        show eZ x E _ [eO q_ 6 [.ref q_, va_rf r1, va_rf r2, .ref (E.2.2.2 12), .null, .int 0, .int code], eMac E c, eIA E na 3 f2, eSto S, eO r 11 [.ref c.a, .ref na, .int (nI q), .int (nI p), .int 0, .int 0, .int mn, .ref a], eO a 0 [.ref ma, .ref dq, .ref sb], eSB E sb sv sN ml tx.length tf, rs] 124 [some (.ref r), some (.int 115), some (.int (nI (gW 115))), none] [.ref q_] 2 14
        refine z_astore_n (L2 := [some (.ref r), some (.int 115), some (.int (nI (gW 115))), some (.ref q_)]) C dX12_one_124 rfl (Nat.le_of_ble_eq_true rfl) rfl ?_
        refine z_aload_n C dX12_one_125 rfl rfl ?_
        refine z_iconst (v := 2) C dX12_one_126 (by decide) ?_
        refine z_put eK11 4 4 (Γ2 := [eO q_ 6 [.ref q_, va_rf r1, va_rf r2, .ref (E.2.2.2 12), .null, .int 0, .int code], eMac E c, eIA E na 3 f2, eSto S, eO r 11 [.ref c.a, .ref na, .int (nI q), .int (nI p), .int 2, .int 0, .int mn, .ref a], eO a 0 [.ref ma, .ref dq, .ref sb], eSB E sb sv sN ml tx.length tf, rs]) C dX12_one_127 rfl rfl q1546 (eSame1 rfl) (by decide) rfl rfl rfl rfl (Nat.le_of_ble_eq_true rfl) rfl ?_
        refine z_aload_n C dX12_one_130 rfl rfl ?_
        refine z_aload_n C dX12_one_131 rfl rfl ?_
        refine z_getN eK6 0 6 C dX12_one_132 rfl rfl q1023 (eSame1 rfl) (by decide) rfl ?_
        refine z_put eK11 4 5 (Γ2 := [eO q_ 6 [.ref q_, va_rf r1, va_rf r2, .ref (E.2.2.2 12), .null, .int 0, .int code], eMac E c, eIA E na 3 f2, eSto S, eO r 11 [.ref c.a, .ref na, .int (nI q), .int (nI p), .int 2, .int code, .int mn, .ref a], eO a 0 [.ref ma, .ref dq, .ref sb], eSB E sb sv sN ml tx.length tf, rs]) C dX12_one_135 rfl rfl q1548 (eSame1 rfl) (by decide) rfl rfl rfl rfl (Nat.le_of_ble_eq_true rfl) rfl ?_
        refine z_pick (Γ' := [eO q_ 6 [.ref q_, va_rf r1, va_rf r2, .ref (E.2.2.2 12), .null, .int 0, .int code], eO r 11 [.ref c.a, .ref na, .int (nI q), .int (nI p), .int 2, .int code, .int mn, .ref a], eIA E na 3 f2, eMac E c, eO a 0 [.ref ma, .ref dq, .ref sb], eSB E sb sv sN ml tx.length tf, eSto S, rs]) [0, 4, 2, 1, 5, 6, 3, 7] (ePm 8 rfl (by decide +kernel)) rfl ?_
        refine z_drop ?_
        show eZ x E _ [eO r 11 [.ref c.a, .ref na, .int (nI q), .int (nI p), .int 2, .int code, .int mn, .ref a], eIA E na 3 f2, eMac E c, eO a 0 [.ref ma, .ref dq, .ref sb], eSB E sb sv sN ml tx.length tf, eSto S, rs] 138 [some (.ref r), some (.int 115), some (.int (nI (gW 115))), some (.ref q_)] [] 2 14
        subst hQ_
        refine z_X ?_
        exact z_vret (Γ := [eO r 11 [.ref c.a, .ref na, .int (nI q), .int (nI p), .int 2, .int code, .int mn, .ref a], eIA E na 3 f2, eMac E c, eO a 0 [.ref ma, .ref dq, .ref sb], eSB E sb sv sN ml tx.length tf, eSto S]) C dX12_one_138 rfl (by (try dsimp only); rw [gOneR_q hR]; omega) (by (try dsimp only); rw [gOneR_q hR]; omega) ⟨rfl, c, S, by rw [hG, if_neg (fun h => by cases h), he2, hR]; first | done | (dsimp only; rw [Int32.add_zero]) | rfl, by rw [hG, if_neg (fun h => by cases h), he2], hS, fun z h => h, rfl⟩
      obtain ⟨rv, A2, c3, S3, he, rfl, rfl, ha3, hca3, hS3, hSS⟩ := hp_
      have he2 : gDone (nI 115) c.abs f2 = .inr (rv, A2) := he
      rw [← hca3]
      show eZ x E _ [eMac E c3, eIA E na 3 f2, eSto S3, eO r 11 [.ref c3.a, .ref na, .int (nI q), .int (nI p), .int 0, .int 0, .int mn, .ref a], eO a 0 [.ref ma, .ref dq, .ref sb], eSB E sb sv sN ml tx.length tf, rs] 110 [some (.ref r), some (.int 115), some (.int (nI (gW 115))), none] [.int rv] 2 14
      refine z_istore_n (L2 := [some (.ref r), some (.int 115), some (.int (nI (gW 115))), some (.int rv)]) C dX12_one_110 rfl (Nat.le_of_ble_eq_true rfl) rfl ?_
      refine z_aload_n C dX12_one_111 rfl rfl ?_
      refine z_dup C dX12_one_112 rfl ?_
      refine z_get eK11 3 6 C dX12_one_113 rfl rfl q1550 (eSame1 rfl) (by decide) rfl ?_
      refine z_iconst (v := 1) C dX12_one_116 (by decide) ?_
      refine z_iadd (w := mn + 1) C dX12_one_117 rfl ?_
      refine z_put eK11 3 6 (Γ2 := [eMac E c3, eIA E na 3 f2, eSto S3, eO r 11 [.ref c3.a, .ref na, .int (nI q), .int (nI p), .int 0, .int 0, .int (mn + 1), .ref a], eO a 0 [.ref ma, .ref dq, .ref sb], eSB E sb sv sN ml tx.length tf, rs]) C dX12_one_118 rfl rfl q1550 (eSame1 rfl) (by decide) rfl rfl rfl rfl (Nat.le_of_ble_eq_true rfl) rfl ?_
      refine z_goto 138 C dX12_one_121 (by decide) ?_
      refine z_pick (Γ' := [eO r 11 [.ref c3.a, .ref na, .int (nI q), .int (nI p), .int 0, .int 0, .int (mn + 1), .ref a], eIA E na 3 f2, eMac E c3, eO a 0 [.ref ma, .ref dq, .ref sb], eSB E sb sv sN ml tx.length tf, eSto S3, rs]) [3, 1, 0, 4, 5, 2, 6] (ePm 7 rfl (by decide +kernel)) rfl ?_
      subst hQ_
      refine z_X ?_
      exact z_vret (Γ := [eO r 11 [.ref c3.a, .ref na, .int (nI q), .int (nI p), .int 0, .int 0, .int (mn + 1), .ref a], eIA E na 3 f2, eMac E c3, eO a 0 [.ref ma, .ref dq, .ref sb], eSB E sb sv sN ml tx.length tf, eSto S3]) C dX12_one_138 rfl (by (try dsimp only); rw [gOneR_q hR]; omega) (by (try dsimp only); rw [gOneR_q hR]; omega) ⟨rfl, c3, S3, by rw [hG, if_neg (fun h => by cases h), he2, hR]; first | done | rfl, by rw [hG, if_neg (fun h => by cases h), he2]; exact ha3, hS3, hSS, hca3⟩
    · subst hl_
      show eZ x E _ [eO r 11 [.ref c.a, .ref na, .int (nI q), .int (nI p), .int 0, .int 0, .int mn, .ref a], eIA E na 3 f2, eO a 0 [.ref ma, .ref dq, .ref sb], eSB E sb sv sN ml tx.length tf, eMac E c, eSto S, rs] 98 [some (.ref r), some (.int 108), some (.int (nI (gW 108))), none] [] 0 0
      have hrd := gRd_two hW0 (by rw [hR])
      dsimp only at hq
      have hp1e : gP1 108 p = p + 1 := rfl
      rw [hp1e] at hq
      refine z_aload_n C dX12_one_98 rfl rfl ?_
      refine z_get eK11 0 0 C dX12_one_99 rfl rfl q1540 (eSame1 rfl) (by decide) rfl ?_
      refine z_iload_n C dX12_one_102 rfl rfl ?_
      refine z_aload_n C dX12_one_103 rfl rfl ?_
      refine z_get eK11 0 1 C dX12_one_104 rfl rfl q1542 (eSame1 rfl) (by decide) rfl ?_
      refine z_callSNX (As := [.ref c.a, .int 108, .ref na]) (rest := []) (Δ := [eO r 11 [.ref c.a, .ref na, .int (nI q), .int (nI p), .int 0, .int 0, .int mn, .ref a], eO a 0 [.ref ma, .ref dq, .ref sb], eSB E sb sv sN ml tx.length tf, rs]) [4, 1, 5] [0, 2, 3, 6] 3 (m_done_l hl E c S hok hS na 3 f2 (by decide) (by decide)) C dX12_one_107 rfl rfl rfl q1657 q974 q49 q975 (by decide +kernel) rfl (ePm 7 rfl (by decide +kernel)) rfl rfl ⟨Nat.le_of_ble_eq_true rfl, Nat.le_of_ble_eq_true rfl⟩ (Nat.le_trans eS0 (Nat.le_of_ble_eq_true rfl)) ⟨by (try dsimp only); rw [gOneR_q hR]; omega, by (try dsimp only); rw [gOneR_q hR]; omega⟩ (fun q_ En_ Γ_ hx_ => ?_) (fun v_ Γ_ hp_ => ?_)
      · obtain ⟨code, he, rfl, r1, r2, rfl⟩ := hx_
        have he2 : gDone (nI 108) c.abs f2 = .inl code := he
        show eY x E _ [eRfB E q_ code r1 r2, eMac E c, eIA E na 3 f2, eSto S, eO r 11 [.ref c.a, .ref na, .int (nI q), .int (nI p), .int 0, .int 0, .int mn, .ref a], eO a 0 [.ref ma, .ref dq, .ref sb], eSB E sb sv sN ml tx.length tf, rs] 107 [some (.ref r), some (.int 108), some (.int (nI (gW 108))), none] [] q_ 2 14
        show eY x E _ [eO q_ 6 [.ref q_, va_rf r1, va_rf r2, .ref (E.2.2.2 12), .null, .int 0, .int code], eMac E c, eIA E na 3 f2, eSto S, eO r 11 [.ref c.a, .ref na, .int (nI q), .int (nI p), .int 0, .int 0, .int mn, .ref a], eO a 0 [.ref ma, .ref dq, .ref sb], eSB E sb sv sN ml tx.length tf, rs] 107 [some (.ref r), some (.int 108), some (.int (nI (gW 108))), none] [] q_ 2 14
        refine z_catch C hT (by decide) (by decide) rfl q1579 q1005 (eIn (i := 0) rfl List.mem_cons_self) (show eCl[6]? = some _ from rfl) ?_
        show eZ x E _ [eO q_ 6 [.ref q_, va_rf r1, va_rf r2, .ref (E.2.2.2 12), .null, .int 0, .int code], eMac E c, eIA E na 3 f2, eSto S, eO r 11 [.ref c.a, .ref na, .int (nI q), .int (nI p), .int 0, .int 0, .int mn, .ref a], eO a 0 [.ref ma, .ref dq, .ref sb], eSB E sb sv sN ml tx.length tf, rs] 124 [some (.ref r), some (.int 108), some (.int (nI (gW 108))), none] [.ref q_] 2 14
        refine z_astore_n (L2 := [some (.ref r), some (.int 108), some (.int (nI (gW 108))), some (.ref q_)]) C dX12_one_124 rfl (Nat.le_of_ble_eq_true rfl) rfl ?_
        refine z_aload_n C dX12_one_125 rfl rfl ?_
        refine z_iconst (v := 2) C dX12_one_126 (by decide) ?_
        refine z_put eK11 4 4 (Γ2 := [eO q_ 6 [.ref q_, va_rf r1, va_rf r2, .ref (E.2.2.2 12), .null, .int 0, .int code], eMac E c, eIA E na 3 f2, eSto S, eO r 11 [.ref c.a, .ref na, .int (nI q), .int (nI p), .int 2, .int 0, .int mn, .ref a], eO a 0 [.ref ma, .ref dq, .ref sb], eSB E sb sv sN ml tx.length tf, rs]) C dX12_one_127 rfl rfl q1546 (eSame1 rfl) (by decide) rfl rfl rfl rfl (Nat.le_of_ble_eq_true rfl) rfl ?_
        refine z_aload_n C dX12_one_130 rfl rfl ?_
        refine z_aload_n C dX12_one_131 rfl rfl ?_
        refine z_getN eK6 0 6 C dX12_one_132 rfl rfl q1023 (eSame1 rfl) (by decide) rfl ?_
        refine z_put eK11 4 5 (Γ2 := [eO q_ 6 [.ref q_, va_rf r1, va_rf r2, .ref (E.2.2.2 12), .null, .int 0, .int code], eMac E c, eIA E na 3 f2, eSto S, eO r 11 [.ref c.a, .ref na, .int (nI q), .int (nI p), .int 2, .int code, .int mn, .ref a], eO a 0 [.ref ma, .ref dq, .ref sb], eSB E sb sv sN ml tx.length tf, rs]) C dX12_one_135 rfl rfl q1548 (eSame1 rfl) (by decide) rfl rfl rfl rfl (Nat.le_of_ble_eq_true rfl) rfl ?_
        refine z_pick (Γ' := [eO q_ 6 [.ref q_, va_rf r1, va_rf r2, .ref (E.2.2.2 12), .null, .int 0, .int code], eO r 11 [.ref c.a, .ref na, .int (nI q), .int (nI p), .int 2, .int code, .int mn, .ref a], eIA E na 3 f2, eMac E c, eO a 0 [.ref ma, .ref dq, .ref sb], eSB E sb sv sN ml tx.length tf, eSto S, rs]) [0, 4, 2, 1, 5, 6, 3, 7] (ePm 8 rfl (by decide +kernel)) rfl ?_
        refine z_drop ?_
        show eZ x E _ [eO r 11 [.ref c.a, .ref na, .int (nI q), .int (nI p), .int 2, .int code, .int mn, .ref a], eIA E na 3 f2, eMac E c, eO a 0 [.ref ma, .ref dq, .ref sb], eSB E sb sv sN ml tx.length tf, eSto S, rs] 138 [some (.ref r), some (.int 108), some (.int (nI (gW 108))), some (.ref q_)] [] 2 14
        subst hQ_
        refine z_X ?_
        exact z_vret (Γ := [eO r 11 [.ref c.a, .ref na, .int (nI q), .int (nI p), .int 2, .int code, .int mn, .ref a], eIA E na 3 f2, eMac E c, eO a 0 [.ref ma, .ref dq, .ref sb], eSB E sb sv sN ml tx.length tf, eSto S]) C dX12_one_138 rfl (by (try dsimp only); rw [gOneR_q hR]; omega) (by (try dsimp only); rw [gOneR_q hR]; omega) ⟨rfl, c, S, by rw [hG, if_neg (fun h => by cases h), he2, hR]; first | done | (dsimp only; rw [Int32.add_zero]) | rfl, by rw [hG, if_neg (fun h => by cases h), he2], hS, fun z h => h, rfl⟩
      obtain ⟨rv, A2, c3, S3, he, rfl, rfl, ha3, hca3, hS3, hSS⟩ := hp_
      have he2 : gDone (nI 108) c.abs f2 = .inr (rv, A2) := he
      rw [← hca3]
      show eZ x E _ [eMac E c3, eIA E na 3 f2, eSto S3, eO r 11 [.ref c3.a, .ref na, .int (nI q), .int (nI p), .int 0, .int 0, .int mn, .ref a], eO a 0 [.ref ma, .ref dq, .ref sb], eSB E sb sv sN ml tx.length tf, rs] 110 [some (.ref r), some (.int 108), some (.int (nI (gW 108))), none] [.int rv] 2 14
      refine z_istore_n (L2 := [some (.ref r), some (.int 108), some (.int (nI (gW 108))), some (.int rv)]) C dX12_one_110 rfl (Nat.le_of_ble_eq_true rfl) rfl ?_
      refine z_aload_n C dX12_one_111 rfl rfl ?_
      refine z_dup C dX12_one_112 rfl ?_
      refine z_get eK11 3 6 C dX12_one_113 rfl rfl q1550 (eSame1 rfl) (by decide) rfl ?_
      refine z_iconst (v := 1) C dX12_one_116 (by decide) ?_
      refine z_iadd (w := mn + 1) C dX12_one_117 rfl ?_
      refine z_put eK11 3 6 (Γ2 := [eMac E c3, eIA E na 3 f2, eSto S3, eO r 11 [.ref c3.a, .ref na, .int (nI q), .int (nI p), .int 0, .int 0, .int (mn + 1), .ref a], eO a 0 [.ref ma, .ref dq, .ref sb], eSB E sb sv sN ml tx.length tf, rs]) C dX12_one_118 rfl rfl q1550 (eSame1 rfl) (by decide) rfl rfl rfl rfl (Nat.le_of_ble_eq_true rfl) rfl ?_
      refine z_goto 138 C dX12_one_121 (by decide) ?_
      refine z_pick (Γ' := [eO r 11 [.ref c3.a, .ref na, .int (nI q), .int (nI p), .int 0, .int 0, .int (mn + 1), .ref a], eIA E na 3 f2, eMac E c3, eO a 0 [.ref ma, .ref dq, .ref sb], eSB E sb sv sN ml tx.length tf, eSto S3, rs]) [3, 1, 0, 4, 5, 2, 6] (ePm 7 rfl (by decide +kernel)) rfl ?_
      subst hQ_
      refine z_X ?_
      exact z_vret (Γ := [eO r 11 [.ref c3.a, .ref na, .int (nI q), .int (nI p), .int 0, .int 0, .int (mn + 1), .ref a], eIA E na 3 f2, eMac E c3, eO a 0 [.ref ma, .ref dq, .ref sb], eSB E sb sv sN ml tx.length tf, eSto S3]) C dX12_one_138 rfl (by (try dsimp only); rw [gOneR_q hR]; omega) (by (try dsimp only); rw [gOneR_q hR]; omega) ⟨rfl, c3, S3, by rw [hG, if_neg (fun h => by cases h), he2, hR]; first | done | rfl, by rw [hG, if_neg (fun h => by cases h), he2]; exact ha3, hS3, hSS, hca3⟩
    · subst hl_
      show eZ x E _ [eO r 11 [.ref c.a, .ref na, .int (nI q), .int (nI p), .int 0, .int 0, .int mn, .ref a], eIA E na 3 f2, eO a 0 [.ref ma, .ref dq, .ref sb], eSB E sb sv sN ml tx.length tf, eMac E c, eSto S, rs] 98 [some (.ref r), some (.int 116), some (.int (nI (gW 116))), none] [] 0 0
      have hrd := gRd_two hW0 (by rw [hR])
      dsimp only at hq
      have hp1e : gP1 116 p = p + 1 := rfl
      rw [hp1e] at hq
      refine z_aload_n C dX12_one_98 rfl rfl ?_
      refine z_get eK11 0 0 C dX12_one_99 rfl rfl q1540 (eSame1 rfl) (by decide) rfl ?_
      refine z_iload_n C dX12_one_102 rfl rfl ?_
      refine z_aload_n C dX12_one_103 rfl rfl ?_
      refine z_get eK11 0 1 C dX12_one_104 rfl rfl q1542 (eSame1 rfl) (by decide) rfl ?_
      refine z_callSNX (As := [.ref c.a, .int 116, .ref na]) (rest := []) (Δ := [eO r 11 [.ref c.a, .ref na, .int (nI q), .int (nI p), .int 0, .int 0, .int mn, .ref a], eO a 0 [.ref ma, .ref dq, .ref sb], eSB E sb sv sN ml tx.length tf, rs]) [4, 1, 5] [0, 2, 3, 6] 3 (m_done_t hl E c S hok hS na 3 f2 (by decide) (by decide)) C dX12_one_107 rfl rfl rfl q1657 q974 q49 q975 (by decide +kernel) rfl (ePm 7 rfl (by decide +kernel)) rfl rfl ⟨Nat.le_of_ble_eq_true rfl, Nat.le_of_ble_eq_true rfl⟩ (Nat.le_trans eS0 (Nat.le_of_ble_eq_true rfl)) ⟨by (try dsimp only); rw [gOneR_q hR]; omega, by (try dsimp only); rw [gOneR_q hR]; omega⟩ (fun q_ En_ Γ_ hx_ => ?_) (fun v_ Γ_ hp_ => ?_)
      · obtain ⟨code, he, rfl, r1, r2, rfl⟩ := hx_
        have he2 : gDone (nI 116) c.abs f2 = .inl code := he
        show eY x E _ [eRfB E q_ code r1 r2, eMac E c, eIA E na 3 f2, eSto S, eO r 11 [.ref c.a, .ref na, .int (nI q), .int (nI p), .int 0, .int 0, .int mn, .ref a], eO a 0 [.ref ma, .ref dq, .ref sb], eSB E sb sv sN ml tx.length tf, rs] 107 [some (.ref r), some (.int 116), some (.int (nI (gW 116))), none] [] q_ 2 14
        show eY x E _ [eO q_ 6 [.ref q_, va_rf r1, va_rf r2, .ref (E.2.2.2 12), .null, .int 0, .int code], eMac E c, eIA E na 3 f2, eSto S, eO r 11 [.ref c.a, .ref na, .int (nI q), .int (nI p), .int 0, .int 0, .int mn, .ref a], eO a 0 [.ref ma, .ref dq, .ref sb], eSB E sb sv sN ml tx.length tf, rs] 107 [some (.ref r), some (.int 116), some (.int (nI (gW 116))), none] [] q_ 2 14
        refine z_catch C hT (by decide) (by decide) rfl q1579 q1005 (eIn (i := 0) rfl List.mem_cons_self) (show eCl[6]? = some _ from rfl) ?_
        show eZ x E _ [eO q_ 6 [.ref q_, va_rf r1, va_rf r2, .ref (E.2.2.2 12), .null, .int 0, .int code], eMac E c, eIA E na 3 f2, eSto S, eO r 11 [.ref c.a, .ref na, .int (nI q), .int (nI p), .int 0, .int 0, .int mn, .ref a], eO a 0 [.ref ma, .ref dq, .ref sb], eSB E sb sv sN ml tx.length tf, rs] 124 [some (.ref r), some (.int 116), some (.int (nI (gW 116))), none] [.ref q_] 2 14
        refine z_astore_n (L2 := [some (.ref r), some (.int 116), some (.int (nI (gW 116))), some (.ref q_)]) C dX12_one_124 rfl (Nat.le_of_ble_eq_true rfl) rfl ?_
        refine z_aload_n C dX12_one_125 rfl rfl ?_
        refine z_iconst (v := 2) C dX12_one_126 (by decide) ?_
        refine z_put eK11 4 4 (Γ2 := [eO q_ 6 [.ref q_, va_rf r1, va_rf r2, .ref (E.2.2.2 12), .null, .int 0, .int code], eMac E c, eIA E na 3 f2, eSto S, eO r 11 [.ref c.a, .ref na, .int (nI q), .int (nI p), .int 2, .int 0, .int mn, .ref a], eO a 0 [.ref ma, .ref dq, .ref sb], eSB E sb sv sN ml tx.length tf, rs]) C dX12_one_127 rfl rfl q1546 (eSame1 rfl) (by decide) rfl rfl rfl rfl (Nat.le_of_ble_eq_true rfl) rfl ?_
        refine z_aload_n C dX12_one_130 rfl rfl ?_
        refine z_aload_n C dX12_one_131 rfl rfl ?_
        refine z_getN eK6 0 6 C dX12_one_132 rfl rfl q1023 (eSame1 rfl) (by decide) rfl ?_
        refine z_put eK11 4 5 (Γ2 := [eO q_ 6 [.ref q_, va_rf r1, va_rf r2, .ref (E.2.2.2 12), .null, .int 0, .int code], eMac E c, eIA E na 3 f2, eSto S, eO r 11 [.ref c.a, .ref na, .int (nI q), .int (nI p), .int 2, .int code, .int mn, .ref a], eO a 0 [.ref ma, .ref dq, .ref sb], eSB E sb sv sN ml tx.length tf, rs]) C dX12_one_135 rfl rfl q1548 (eSame1 rfl) (by decide) rfl rfl rfl rfl (Nat.le_of_ble_eq_true rfl) rfl ?_
        refine z_pick (Γ' := [eO q_ 6 [.ref q_, va_rf r1, va_rf r2, .ref (E.2.2.2 12), .null, .int 0, .int code], eO r 11 [.ref c.a, .ref na, .int (nI q), .int (nI p), .int 2, .int code, .int mn, .ref a], eIA E na 3 f2, eMac E c, eO a 0 [.ref ma, .ref dq, .ref sb], eSB E sb sv sN ml tx.length tf, eSto S, rs]) [0, 4, 2, 1, 5, 6, 3, 7] (ePm 8 rfl (by decide +kernel)) rfl ?_
        refine z_drop ?_
        show eZ x E _ [eO r 11 [.ref c.a, .ref na, .int (nI q), .int (nI p), .int 2, .int code, .int mn, .ref a], eIA E na 3 f2, eMac E c, eO a 0 [.ref ma, .ref dq, .ref sb], eSB E sb sv sN ml tx.length tf, eSto S, rs] 138 [some (.ref r), some (.int 116), some (.int (nI (gW 116))), some (.ref q_)] [] 2 14
        subst hQ_
        refine z_X ?_
        exact z_vret (Γ := [eO r 11 [.ref c.a, .ref na, .int (nI q), .int (nI p), .int 2, .int code, .int mn, .ref a], eIA E na 3 f2, eMac E c, eO a 0 [.ref ma, .ref dq, .ref sb], eSB E sb sv sN ml tx.length tf, eSto S]) C dX12_one_138 rfl (by (try dsimp only); rw [gOneR_q hR]; omega) (by (try dsimp only); rw [gOneR_q hR]; omega) ⟨rfl, c, S, by rw [hG, if_neg (fun h => by cases h), he2, hR]; first | done | (dsimp only; rw [Int32.add_zero]) | rfl, by rw [hG, if_neg (fun h => by cases h), he2], hS, fun z h => h, rfl⟩
      obtain ⟨rv, A2, c3, S3, he, rfl, rfl, ha3, hca3, hS3, hSS⟩ := hp_
      have he2 : gDone (nI 116) c.abs f2 = .inr (rv, A2) := he
      rw [← hca3]
      show eZ x E _ [eMac E c3, eIA E na 3 f2, eSto S3, eO r 11 [.ref c3.a, .ref na, .int (nI q), .int (nI p), .int 0, .int 0, .int mn, .ref a], eO a 0 [.ref ma, .ref dq, .ref sb], eSB E sb sv sN ml tx.length tf, rs] 110 [some (.ref r), some (.int 116), some (.int (nI (gW 116))), none] [.int rv] 2 14
      refine z_istore_n (L2 := [some (.ref r), some (.int 116), some (.int (nI (gW 116))), some (.int rv)]) C dX12_one_110 rfl (Nat.le_of_ble_eq_true rfl) rfl ?_
      refine z_aload_n C dX12_one_111 rfl rfl ?_
      refine z_dup C dX12_one_112 rfl ?_
      refine z_get eK11 3 6 C dX12_one_113 rfl rfl q1550 (eSame1 rfl) (by decide) rfl ?_
      refine z_iconst (v := 1) C dX12_one_116 (by decide) ?_
      refine z_iadd (w := mn + 1) C dX12_one_117 rfl ?_
      refine z_put eK11 3 6 (Γ2 := [eMac E c3, eIA E na 3 f2, eSto S3, eO r 11 [.ref c3.a, .ref na, .int (nI q), .int (nI p), .int 0, .int 0, .int (mn + 1), .ref a], eO a 0 [.ref ma, .ref dq, .ref sb], eSB E sb sv sN ml tx.length tf, rs]) C dX12_one_118 rfl rfl q1550 (eSame1 rfl) (by decide) rfl rfl rfl rfl (Nat.le_of_ble_eq_true rfl) rfl ?_
      refine z_goto 138 C dX12_one_121 (by decide) ?_
      refine z_pick (Γ' := [eO r 11 [.ref c3.a, .ref na, .int (nI q), .int (nI p), .int 0, .int 0, .int (mn + 1), .ref a], eIA E na 3 f2, eMac E c3, eO a 0 [.ref ma, .ref dq, .ref sb], eSB E sb sv sN ml tx.length tf, eSto S3, rs]) [3, 1, 0, 4, 5, 2, 6] (ePm 7 rfl (by decide +kernel)) rfl ?_
      subst hQ_
      refine z_X ?_
      exact z_vret (Γ := [eO r 11 [.ref c3.a, .ref na, .int (nI q), .int (nI p), .int 0, .int 0, .int (mn + 1), .ref a], eIA E na 3 f2, eMac E c3, eO a 0 [.ref ma, .ref dq, .ref sb], eSB E sb sv sN ml tx.length tf, eSto S3]) C dX12_one_138 rfl (by (try dsimp only); rw [gOneR_q hR]; omega) (by (try dsimp only); rw [gOneR_q hR]; omega) ⟨rfl, c3, S3, by rw [hG, if_neg (fun h => by cases h), he2, hR]; first | done | rfl, by rw [hG, if_neg (fun h => by cases h), he2]; exact ha3, hS3, hSS, hca3⟩
    · subst hl_
      show eZ x E _ [eO r 11 [.ref c.a, .ref na, .int (nI q), .int (nI p), .int 0, .int 0, .int mn, .ref a], eIA E na 3 f2, eO a 0 [.ref ma, .ref dq, .ref sb], eSB E sb sv sN ml tx.length tf, eMac E c, eSto S, rs] 98 [some (.ref r), some (.int 99), some (.int (nI (gW 99))), none] [] 0 0
      have hrd := gRd_two hW0 (by rw [hR])
      dsimp only at hq
      have hp1e : gP1 99 p = p + 1 := rfl
      rw [hp1e] at hq
      refine z_aload_n C dX12_one_98 rfl rfl ?_
      refine z_get eK11 0 0 C dX12_one_99 rfl rfl q1540 (eSame1 rfl) (by decide) rfl ?_
      refine z_iload_n C dX12_one_102 rfl rfl ?_
      refine z_aload_n C dX12_one_103 rfl rfl ?_
      refine z_get eK11 0 1 C dX12_one_104 rfl rfl q1542 (eSame1 rfl) (by decide) rfl ?_
      refine z_callSNX (As := [.ref c.a, .int 99, .ref na]) (rest := []) (Δ := [eO r 11 [.ref c.a, .ref na, .int (nI q), .int (nI p), .int 0, .int 0, .int mn, .ref a], eO a 0 [.ref ma, .ref dq, .ref sb], eSB E sb sv sN ml tx.length tf, rs]) [4, 1, 5] [0, 2, 3, 6] 3 (m_done_c hl E c S hok hS na 3 f2 (by decide) (by decide)) C dX12_one_107 rfl rfl rfl q1657 q974 q49 q975 (by decide +kernel) rfl (ePm 7 rfl (by decide +kernel)) rfl rfl ⟨Nat.le_of_ble_eq_true rfl, Nat.le_of_ble_eq_true rfl⟩ (Nat.le_trans eS0 (Nat.le_of_ble_eq_true rfl)) ⟨by (try dsimp only); rw [gOneR_q hR]; omega, by (try dsimp only); rw [gOneR_q hR]; omega⟩ (fun q_ En_ Γ_ hx_ => ?_) (fun v_ Γ_ hp_ => ?_)
      · obtain ⟨code, he, rfl, r1, r2, rfl⟩ := hx_
        have he2 : gDone (nI 99) c.abs f2 = .inl code := he
        show eY x E _ [eRfB E q_ code r1 r2, eMac E c, eIA E na 3 f2, eSto S, eO r 11 [.ref c.a, .ref na, .int (nI q), .int (nI p), .int 0, .int 0, .int mn, .ref a], eO a 0 [.ref ma, .ref dq, .ref sb], eSB E sb sv sN ml tx.length tf, rs] 107 [some (.ref r), some (.int 99), some (.int (nI (gW 99))), none] [] q_ 2 14
        show eY x E _ [eO q_ 6 [.ref q_, va_rf r1, va_rf r2, .ref (E.2.2.2 12), .null, .int 0, .int code], eMac E c, eIA E na 3 f2, eSto S, eO r 11 [.ref c.a, .ref na, .int (nI q), .int (nI p), .int 0, .int 0, .int mn, .ref a], eO a 0 [.ref ma, .ref dq, .ref sb], eSB E sb sv sN ml tx.length tf, rs] 107 [some (.ref r), some (.int 99), some (.int (nI (gW 99))), none] [] q_ 2 14
        refine z_catch C hT (by decide) (by decide) rfl q1579 q1005 (eIn (i := 0) rfl List.mem_cons_self) (show eCl[6]? = some _ from rfl) ?_
        show eZ x E _ [eO q_ 6 [.ref q_, va_rf r1, va_rf r2, .ref (E.2.2.2 12), .null, .int 0, .int code], eMac E c, eIA E na 3 f2, eSto S, eO r 11 [.ref c.a, .ref na, .int (nI q), .int (nI p), .int 0, .int 0, .int mn, .ref a], eO a 0 [.ref ma, .ref dq, .ref sb], eSB E sb sv sN ml tx.length tf, rs] 124 [some (.ref r), some (.int 99), some (.int (nI (gW 99))), none] [.ref q_] 2 14
        refine z_astore_n (L2 := [some (.ref r), some (.int 99), some (.int (nI (gW 99))), some (.ref q_)]) C dX12_one_124 rfl (Nat.le_of_ble_eq_true rfl) rfl ?_
        refine z_aload_n C dX12_one_125 rfl rfl ?_
        refine z_iconst (v := 2) C dX12_one_126 (by decide) ?_
        refine z_put eK11 4 4 (Γ2 := [eO q_ 6 [.ref q_, va_rf r1, va_rf r2, .ref (E.2.2.2 12), .null, .int 0, .int code], eMac E c, eIA E na 3 f2, eSto S, eO r 11 [.ref c.a, .ref na, .int (nI q), .int (nI p), .int 2, .int 0, .int mn, .ref a], eO a 0 [.ref ma, .ref dq, .ref sb], eSB E sb sv sN ml tx.length tf, rs]) C dX12_one_127 rfl rfl q1546 (eSame1 rfl) (by decide) rfl rfl rfl rfl (Nat.le_of_ble_eq_true rfl) rfl ?_
        refine z_aload_n C dX12_one_130 rfl rfl ?_
        refine z_aload_n C dX12_one_131 rfl rfl ?_
        refine z_getN eK6 0 6 C dX12_one_132 rfl rfl q1023 (eSame1 rfl) (by decide) rfl ?_
        refine z_put eK11 4 5 (Γ2 := [eO q_ 6 [.ref q_, va_rf r1, va_rf r2, .ref (E.2.2.2 12), .null, .int 0, .int code], eMac E c, eIA E na 3 f2, eSto S, eO r 11 [.ref c.a, .ref na, .int (nI q), .int (nI p), .int 2, .int code, .int mn, .ref a], eO a 0 [.ref ma, .ref dq, .ref sb], eSB E sb sv sN ml tx.length tf, rs]) C dX12_one_135 rfl rfl q1548 (eSame1 rfl) (by decide) rfl rfl rfl rfl (Nat.le_of_ble_eq_true rfl) rfl ?_
        refine z_pick (Γ' := [eO q_ 6 [.ref q_, va_rf r1, va_rf r2, .ref (E.2.2.2 12), .null, .int 0, .int code], eO r 11 [.ref c.a, .ref na, .int (nI q), .int (nI p), .int 2, .int code, .int mn, .ref a], eIA E na 3 f2, eMac E c, eO a 0 [.ref ma, .ref dq, .ref sb], eSB E sb sv sN ml tx.length tf, eSto S, rs]) [0, 4, 2, 1, 5, 6, 3, 7] (ePm 8 rfl (by decide +kernel)) rfl ?_
        refine z_drop ?_
        show eZ x E _ [eO r 11 [.ref c.a, .ref na, .int (nI q), .int (nI p), .int 2, .int code, .int mn, .ref a], eIA E na 3 f2, eMac E c, eO a 0 [.ref ma, .ref dq, .ref sb], eSB E sb sv sN ml tx.length tf, eSto S, rs] 138 [some (.ref r), some (.int 99), some (.int (nI (gW 99))), some (.ref q_)] [] 2 14
        subst hQ_
        refine z_X ?_
        exact z_vret (Γ := [eO r 11 [.ref c.a, .ref na, .int (nI q), .int (nI p), .int 2, .int code, .int mn, .ref a], eIA E na 3 f2, eMac E c, eO a 0 [.ref ma, .ref dq, .ref sb], eSB E sb sv sN ml tx.length tf, eSto S]) C dX12_one_138 rfl (by (try dsimp only); rw [gOneR_q hR]; omega) (by (try dsimp only); rw [gOneR_q hR]; omega) ⟨rfl, c, S, by rw [hG, if_neg (fun h => by cases h), he2, hR]; first | done | (dsimp only; rw [Int32.add_zero]) | rfl, by rw [hG, if_neg (fun h => by cases h), he2], hS, fun z h => h, rfl⟩
      obtain ⟨rv, A2, c3, S3, he, rfl, rfl, ha3, hca3, hS3, hSS⟩ := hp_
      have he2 : gDone (nI 99) c.abs f2 = .inr (rv, A2) := he
      rw [← hca3]
      show eZ x E _ [eMac E c3, eIA E na 3 f2, eSto S3, eO r 11 [.ref c3.a, .ref na, .int (nI q), .int (nI p), .int 0, .int 0, .int mn, .ref a], eO a 0 [.ref ma, .ref dq, .ref sb], eSB E sb sv sN ml tx.length tf, rs] 110 [some (.ref r), some (.int 99), some (.int (nI (gW 99))), none] [.int rv] 2 14
      refine z_istore_n (L2 := [some (.ref r), some (.int 99), some (.int (nI (gW 99))), some (.int rv)]) C dX12_one_110 rfl (Nat.le_of_ble_eq_true rfl) rfl ?_
      refine z_aload_n C dX12_one_111 rfl rfl ?_
      refine z_dup C dX12_one_112 rfl ?_
      refine z_get eK11 3 6 C dX12_one_113 rfl rfl q1550 (eSame1 rfl) (by decide) rfl ?_
      refine z_iconst (v := 1) C dX12_one_116 (by decide) ?_
      refine z_iadd (w := mn + 1) C dX12_one_117 rfl ?_
      refine z_put eK11 3 6 (Γ2 := [eMac E c3, eIA E na 3 f2, eSto S3, eO r 11 [.ref c3.a, .ref na, .int (nI q), .int (nI p), .int 0, .int 0, .int (mn + 1), .ref a], eO a 0 [.ref ma, .ref dq, .ref sb], eSB E sb sv sN ml tx.length tf, rs]) C dX12_one_118 rfl rfl q1550 (eSame1 rfl) (by decide) rfl rfl rfl rfl (Nat.le_of_ble_eq_true rfl) rfl ?_
      refine z_goto 138 C dX12_one_121 (by decide) ?_
      refine z_pick (Γ' := [eO r 11 [.ref c3.a, .ref na, .int (nI q), .int (nI p), .int 0, .int 0, .int (mn + 1), .ref a], eIA E na 3 f2, eMac E c3, eO a 0 [.ref ma, .ref dq, .ref sb], eSB E sb sv sN ml tx.length tf, eSto S3, rs]) [3, 1, 0, 4, 5, 2, 6] (ePm 7 rfl (by decide +kernel)) rfl ?_
      subst hQ_
      refine z_X ?_
      exact z_vret (Γ := [eO r 11 [.ref c3.a, .ref na, .int (nI q), .int (nI p), .int 0, .int 0, .int (mn + 1), .ref a], eIA E na 3 f2, eMac E c3, eO a 0 [.ref ma, .ref dq, .ref sb], eSB E sb sv sN ml tx.length tf, eSto S3]) C dX12_one_138 rfl (by (try dsimp only); rw [gOneR_q hR]; omega) (by (try dsimp only); rw [gOneR_q hR]; omega) ⟨rfl, c3, S3, by rw [hG, if_neg (fun h => by cases h), he2, hR]; first | done | rfl, by rw [hG, if_neg (fun h => by cases h), he2]; exact ha3, hS3, hSS, hca3⟩
    · subst hl_
      show eZ x E _ [eO r 11 [.ref c.a, .ref na, .int (nI q), .int (nI p), .int 0, .int 0, .int mn, .ref a], eIA E na 3 f2, eO a 0 [.ref ma, .ref dq, .ref sb], eSB E sb sv sN ml tx.length tf, eMac E c, eSto S, rs] 98 [some (.ref r), some (.int 114), some (.int (nI (gW 114))), none] [] 0 0
      have hR1 : gOF tx 1 (p + 1) f = (true, q, f2) := hR
      have hrm := gOF_room (tx := tx) (p := p + 1) (f := f) (by omega) (by rw [hR1])
      rw [hR1] at hrm
      dsimp only at hrm hq
      refine z_aload_n C dX12_one_98 rfl rfl ?_
      refine z_get eK11 0 0 C dX12_one_99 rfl rfl q1540 (eSame1 rfl) (by decide) rfl ?_
      refine z_iload_n C dX12_one_102 rfl rfl ?_
      refine z_aload_n C dX12_one_103 rfl rfl ?_
      refine z_get eK11 0 1 C dX12_one_104 rfl rfl q1542 (eSame1 rfl) (by decide) rfl ?_
      refine z_callSNX (As := [.ref c.a, .int 114, .ref na]) (rest := []) (Δ := [eO r 11 [.ref c.a, .ref na, .int (nI q), .int (nI p), .int 0, .int 0, .int mn, .ref a], eO a 0 [.ref ma, .ref dq, .ref sb], eSB E sb sv sN ml tx.length tf, rs]) [4, 1, 5] [0, 2, 3, 6] 3 (m_done_r hl E c S hok hS na 3 f2 (by decide) (by decide)) C dX12_one_107 rfl rfl rfl q1657 q974 q49 q975 (by decide +kernel) rfl (ePm 7 rfl (by decide +kernel)) rfl rfl ⟨Nat.le_of_ble_eq_true rfl, Nat.le_of_ble_eq_true rfl⟩ (Nat.le_trans eS0 (Nat.le_of_ble_eq_true rfl)) ⟨by (try dsimp only); rw [gOneR_q hR]; omega, by (try dsimp only); rw [gOneR_q hR]; omega⟩ (fun q_ En_ Γ_ hx_ => ?_) (fun v_ Γ_ hp_ => ?_)
      · obtain ⟨code, he, rfl, r1, r2, rfl⟩ := hx_
        have he2 : gDone (nI 114) c.abs f2 = .inl code := he
        show eY x E _ [eRfB E q_ code r1 r2, eMac E c, eIA E na 3 f2, eSto S, eO r 11 [.ref c.a, .ref na, .int (nI q), .int (nI p), .int 0, .int 0, .int mn, .ref a], eO a 0 [.ref ma, .ref dq, .ref sb], eSB E sb sv sN ml tx.length tf, rs] 107 [some (.ref r), some (.int 114), some (.int (nI (gW 114))), none] [] q_ (0 + (2 + 17 * gM (f2 0))) (0 + (14 + 88 * gM (f2 0)))
        show eY x E _ [eO q_ 6 [.ref q_, va_rf r1, va_rf r2, .ref (E.2.2.2 12), .null, .int 0, .int code], eMac E c, eIA E na 3 f2, eSto S, eO r 11 [.ref c.a, .ref na, .int (nI q), .int (nI p), .int 0, .int 0, .int mn, .ref a], eO a 0 [.ref ma, .ref dq, .ref sb], eSB E sb sv sN ml tx.length tf, rs] 107 [some (.ref r), some (.int 114), some (.int (nI (gW 114))), none] [] q_ (0 + (2 + 17 * gM (f2 0))) (0 + (14 + 88 * gM (f2 0)))
        refine z_catch C hT (by decide) (by decide) rfl q1579 q1005 (eIn (i := 0) rfl List.mem_cons_self) (show eCl[6]? = some _ from rfl) ?_
        show eZ x E _ [eO q_ 6 [.ref q_, va_rf r1, va_rf r2, .ref (E.2.2.2 12), .null, .int 0, .int code], eMac E c, eIA E na 3 f2, eSto S, eO r 11 [.ref c.a, .ref na, .int (nI q), .int (nI p), .int 0, .int 0, .int mn, .ref a], eO a 0 [.ref ma, .ref dq, .ref sb], eSB E sb sv sN ml tx.length tf, rs] 124 [some (.ref r), some (.int 114), some (.int (nI (gW 114))), none] [.ref q_] (0 + (2 + 17 * gM (f2 0))) (0 + (14 + 88 * gM (f2 0)))
        refine z_astore_n (L2 := [some (.ref r), some (.int 114), some (.int (nI (gW 114))), some (.ref q_)]) C dX12_one_124 rfl (Nat.le_of_ble_eq_true rfl) rfl ?_
        refine z_aload_n C dX12_one_125 rfl rfl ?_
        refine z_iconst (v := 2) C dX12_one_126 (by decide) ?_
        refine z_put eK11 4 4 (Γ2 := [eO q_ 6 [.ref q_, va_rf r1, va_rf r2, .ref (E.2.2.2 12), .null, .int 0, .int code], eMac E c, eIA E na 3 f2, eSto S, eO r 11 [.ref c.a, .ref na, .int (nI q), .int (nI p), .int 2, .int 0, .int mn, .ref a], eO a 0 [.ref ma, .ref dq, .ref sb], eSB E sb sv sN ml tx.length tf, rs]) C dX12_one_127 rfl rfl q1546 (eSame1 rfl) (by decide) rfl rfl rfl rfl (Nat.le_of_ble_eq_true rfl) rfl ?_
        refine z_aload_n C dX12_one_130 rfl rfl ?_
        refine z_aload_n C dX12_one_131 rfl rfl ?_
        refine z_getN eK6 0 6 C dX12_one_132 rfl rfl q1023 (eSame1 rfl) (by decide) rfl ?_
        refine z_put eK11 4 5 (Γ2 := [eO q_ 6 [.ref q_, va_rf r1, va_rf r2, .ref (E.2.2.2 12), .null, .int 0, .int code], eMac E c, eIA E na 3 f2, eSto S, eO r 11 [.ref c.a, .ref na, .int (nI q), .int (nI p), .int 2, .int code, .int mn, .ref a], eO a 0 [.ref ma, .ref dq, .ref sb], eSB E sb sv sN ml tx.length tf, rs]) C dX12_one_135 rfl rfl q1548 (eSame1 rfl) (by decide) rfl rfl rfl rfl (Nat.le_of_ble_eq_true rfl) rfl ?_
        refine z_pick (Γ' := [eO q_ 6 [.ref q_, va_rf r1, va_rf r2, .ref (E.2.2.2 12), .null, .int 0, .int code], eO r 11 [.ref c.a, .ref na, .int (nI q), .int (nI p), .int 2, .int code, .int mn, .ref a], eIA E na 3 f2, eMac E c, eO a 0 [.ref ma, .ref dq, .ref sb], eSB E sb sv sN ml tx.length tf, eSto S, rs]) [0, 4, 2, 1, 5, 6, 3, 7] (ePm 8 rfl (by decide +kernel)) rfl ?_
        refine z_drop ?_
        show eZ x E _ [eO r 11 [.ref c.a, .ref na, .int (nI q), .int (nI p), .int 2, .int code, .int mn, .ref a], eIA E na 3 f2, eMac E c, eO a 0 [.ref ma, .ref dq, .ref sb], eSB E sb sv sN ml tx.length tf, eSto S, rs] 138 [some (.ref r), some (.int 114), some (.int (nI (gW 114))), some (.ref q_)] [] (0 + (2 + 17 * gM (f2 0))) (0 + (14 + 88 * gM (f2 0)))
        subst hQ_
        refine z_X ?_
        exact z_vret (Γ := [eO r 11 [.ref c.a, .ref na, .int (nI q), .int (nI p), .int 2, .int code, .int mn, .ref a], eIA E na 3 f2, eMac E c, eO a 0 [.ref ma, .ref dq, .ref sb], eSB E sb sv sN ml tx.length tf, eSto S]) C dX12_one_138 rfl (by (try dsimp only); rw [gOneR_q hR]; omega) (by (try dsimp only); rw [gOneR_q hR]; omega) ⟨rfl, c, S, by rw [hG, if_neg (fun h => by cases h), he2, hR]; first | done | (dsimp only; rw [Int32.add_zero]) | rfl, by rw [hG, if_neg (fun h => by cases h), he2], hS, fun z h => h, rfl⟩
      obtain ⟨rv, A2, c3, S3, he, rfl, rfl, ha3, hca3, hS3, hSS⟩ := hp_
      have he2 : gDone (nI 114) c.abs f2 = .inr (rv, A2) := he
      rw [← hca3]
      show eZ x E _ [eMac E c3, eIA E na 3 f2, eSto S3, eO r 11 [.ref c3.a, .ref na, .int (nI q), .int (nI p), .int 0, .int 0, .int mn, .ref a], eO a 0 [.ref ma, .ref dq, .ref sb], eSB E sb sv sN ml tx.length tf, rs] 110 [some (.ref r), some (.int 114), some (.int (nI (gW 114))), none] [.int rv] (0 + (2 + 17 * gM (f2 0))) (0 + (14 + 88 * gM (f2 0)))
      refine z_istore_n (L2 := [some (.ref r), some (.int 114), some (.int (nI (gW 114))), some (.int rv)]) C dX12_one_110 rfl (Nat.le_of_ble_eq_true rfl) rfl ?_
      refine z_aload_n C dX12_one_111 rfl rfl ?_
      refine z_dup C dX12_one_112 rfl ?_
      refine z_get eK11 3 6 C dX12_one_113 rfl rfl q1550 (eSame1 rfl) (by decide) rfl ?_
      refine z_iconst (v := 1) C dX12_one_116 (by decide) ?_
      refine z_iadd (w := mn + 1) C dX12_one_117 rfl ?_
      refine z_put eK11 3 6 (Γ2 := [eMac E c3, eIA E na 3 f2, eSto S3, eO r 11 [.ref c3.a, .ref na, .int (nI q), .int (nI p), .int 0, .int 0, .int (mn + 1), .ref a], eO a 0 [.ref ma, .ref dq, .ref sb], eSB E sb sv sN ml tx.length tf, rs]) C dX12_one_118 rfl rfl q1550 (eSame1 rfl) (by decide) rfl rfl rfl rfl (Nat.le_of_ble_eq_true rfl) rfl ?_
      refine z_goto 138 C dX12_one_121 (by decide) ?_
      refine z_pick (Γ' := [eO r 11 [.ref c3.a, .ref na, .int (nI q), .int (nI p), .int 0, .int 0, .int (mn + 1), .ref a], eIA E na 3 f2, eMac E c3, eO a 0 [.ref ma, .ref dq, .ref sb], eSB E sb sv sN ml tx.length tf, eSto S3, rs]) [3, 1, 0, 4, 5, 2, 6] (ePm 7 rfl (by decide +kernel)) rfl ?_
      subst hQ_
      refine z_X ?_
      exact z_vret (Γ := [eO r 11 [.ref c3.a, .ref na, .int (nI q), .int (nI p), .int 0, .int 0, .int (mn + 1), .ref a], eIA E na 3 f2, eMac E c3, eO a 0 [.ref ma, .ref dq, .ref sb], eSB E sb sv sN ml tx.length tf, eSto S3]) C dX12_one_138 rfl (by (try dsimp only); rw [gOneR_q hR]; omega) (by (try dsimp only); rw [gOneR_q hR]; omega) ⟨rfl, c3, S3, by rw [hG, if_neg (fun h => by cases h), he2, hR]; first | done | rfl, by rw [hG, if_neg (fun h => by cases h), he2]; exact ha3, hS3, hSS, hca3⟩
  · refine z_aload_n C dX12_one_79 rfl rfl ?_
    refine z_iconst (v := 1) C dX12_one_80 (by decide) ?_
    refine z_put eK11 0 4 (Γ2 := [eO r 11 [.ref c.a, .ref na, .int (nI q), .int (nI p), .int 1, .int 0, .int mn, .ref a], eIA E na 3 f2, eO a 0 [.ref ma, .ref dq, .ref sb], eSB E sb sv sN ml tx.length tf, eMac E c, eSto S, rs]) C dX12_one_81 rfl rfl q1546 (eSame1 rfl) (by decide) rfl rfl rfl rfl (Nat.le_of_ble_eq_true rfl) rfl ?_
    refine z_aload_n C dX12_one_84 rfl rfl ?_
    refine z_aload_n C dX12_one_85 rfl rfl ?_
    refine z_get eK11 0 2 C dX12_one_86 rfl rfl q1543 (eSame1 rfl) (by decide) rfl ?_
    refine z_aload_n C dX12_one_89 rfl rfl ?_
    refine z_get eK11 0 3 C dX12_one_90 rfl rfl q1544 (eSame1 rfl) (by decide) rfl ?_
    refine z_isub (w := nI q - nI p) C dX12_one_93 rfl ?_
    refine z_put eK11 0 5 (Γ2 := [eO r 11 [.ref c.a, .ref na, .int (nI q), .int (nI p), .int 1, .int (nI q - nI p), .int mn, .ref a], eIA E na 3 f2, eO a 0 [.ref ma, .ref dq, .ref sb], eSB E sb sv sN ml tx.length tf, eMac E c, eSto S, rs]) C dX12_one_94 rfl rfl q1548 (eSame1 rfl) (by decide) rfl rfl rfl rfl (Nat.le_of_ble_eq_true rfl) rfl ?_
    refine z_pick (Γ' := [eO r 11 [.ref c.a, .ref na, .int (nI q), .int (nI p), .int 1, .int (nI q - nI p), .int mn, .ref a], eIA E na 3 f2, eMac E c, eO a 0 [.ref ma, .ref dq, .ref sb], eSB E sb sv sN ml tx.length tf, eSto S, rs]) [0, 1, 4, 2, 3, 5, 6] (ePm 7 rfl (by decide +kernel)) rfl ?_
    refine z_pick (Γ' := [eO r 11 [.ref c.a, .ref na, .int (nI q), .int (nI p), .int 1, .int (nI q - nI p), .int mn, .ref a], eIA E na 3 f2, eMac E c, eO a 0 [.ref ma, .ref dq, .ref sb], eSB E sb sv sN ml tx.length tf, eSto S, rs]) [0, 1, 2, 3, 4, 5, 6] (ePm 7 rfl (by decide +kernel)) rfl ?_
    subst hQ_
    refine z_X ?_
    exact z_vret (Γ := [eO r 11 [.ref c.a, .ref na, .int (nI q), .int (nI p), .int 1, .int (nI q - nI p), .int mn, .ref a], eIA E na 3 f2, eMac E c, eO a 0 [.ref ma, .ref dq, .ref sb], eSB E sb sv sN ml tx.length tf, eSto S]) C dX12_one_97 rfl (Nat.le_of_ble_eq_true rfl) (Nat.le_of_ble_eq_true rfl) ⟨rfl, c, S, by rw [hG, if_pos hok_, hR]; first | done | (dsimp only; rw [Int32.add_zero]) | rfl, by rw [hG, if_pos hok_], hS, fun z h => h, rfl⟩
