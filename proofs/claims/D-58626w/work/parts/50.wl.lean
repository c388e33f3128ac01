/-! ===== the reader: all orders; fault and play ===== -/
set_option maxRecDepth 100000
theorem gFm_ind (tx : List Nat) (k : Nat) : ∀ (wh p : Nat) (f g : Nat → Int32), (∀ i, i < wh → f i = g i) → (gFm tx k wh p f).1 = (gFm tx k wh p g).1 ∧ (gFm tx k wh p f).2.1 = (gFm tx k wh p g).2.1 ∧ ((gFm tx k wh p f).1 = true → ∀ i, i < wh + k → (gFm tx k wh p f).2.2 i = (gFm tx k wh p g).2.2 i) := by
  induction k with
  | zero => intro wh p f g h; exact ⟨rfl, rfl, fun _ i hi => h i hi⟩
  | succ k ih =>
    intro wh p f g h
    rw [gFm, gFm]
    generalize (if wh = 0 then p else p + 1) = q
    by_cases hA : wh ≠ 0 ∧ gAcc tx p 44 = false
    · rw [if_pos hA, if_pos hA]; exact ⟨rfl, rfl, fun h => by cases h⟩
    · rw [if_neg hA, if_neg hA]
      by_cases hq : q < (gRd tx 3 q 0).1
      · rw [if_pos hq, if_pos hq]
        have h9 := ih (wh + 1) (gRd tx 3 q 0).1 (upd f wh (gRd tx 3 q 0).2) (upd g wh (gRd tx 3 q 0).2) (fun i hi => by
          unfold upd
          by_cases hh : i = wh
          · rw [if_pos hh, if_pos hh]
          · rw [if_neg hh, if_neg hh]; exact h i (by omega))
        exact ⟨h9.1, h9.2.1, fun ht i hi => h9.2.2 ht i (by omega)⟩
      · rw [if_neg hq, if_neg hq]; exact ⟨rfl, rfl, fun h => by cases h⟩
theorem gOF_ind (tx : List Nat) (W p : Nat) (f g : Nat → Int32) : (gOF tx W p f).1 = (gOF tx W p g).1 ∧ (gOF tx W p f).2.1 = (gOF tx W p g).2.1 ∧ ((gOF tx W p f).1 = true → ∀ i, i < W → (gOF tx W p f).2.2 i = (gOF tx W p g).2.2 i) := by
  have h9 := gFm_ind tx W 0 p f g (fun i hi => absurd hi (Nat.not_lt_zero i))
  unfold gOF
  by_cases hW : W = 0
  · rw [if_pos hW, if_pos hW]; exact ⟨rfl, rfl, fun h => by cases h⟩
  · rw [if_neg hW, if_neg hW]
    by_cases ht : (gFm tx W 0 p f).1 = true
    · rw [if_pos ht, if_pos (show (gFm tx W 0 p g).1 = true by rw [← h9.1]; exact ht)]
      dsimp only
      rw [h9.2.1]
      exact ⟨rfl, rfl, fun _ i hi => h9.2.2 ht i (by omega)⟩
    · rw [if_neg ht, if_neg (show ¬ (gFm tx W 0 p g).1 = true by rw [← h9.1]; exact ht)]
      exact ⟨h9.1, h9.2.1, fun h => absurd h ht⟩
theorem gDone_ag (c : Nat) (A : Am) (f g : Nat → Int32) (hW : gW c ≠ 0) (h : ∀ i, i < gW c → f i = g i) : gDone (nI c) A f = gDone (nI c) A g := by
  rcases gW_l c hW with hl | hl | hl | hl | hl | hl
  · subst hl; rw [show nI 101 = 101 from rfl, gDone_e, gDone_e, h 0 (by decide), h 1 (by decide), h 2 (by decide)]
  · subst hl; rw [show nI 115 = 115 from rfl, gDone_s, gDone_s, h 0 (by decide), h 1 (by decide)]
  · subst hl; rw [show nI 108 = 108 from rfl, gDone_l, gDone_l, h 0 (by decide), h 1 (by decide)]
  · subst hl; rw [show nI 116 = 116 from rfl, gDone_t, gDone_t, h 0 (by decide), h 1 (by decide)]
  · subst hl; rw [show nI 99 = 99 from rfl, gDone_c, gDone_c, h 0 (by decide)]
  · subst hl; rw [show nI 114 = 114 from rfl, gDone_r, gDone_r, h 0 (by decide)]
theorem gOF_W {tx : List Nat} {W p : Nat} {f : Nat → Int32} (h : (gOF tx W p f).1 = true) : W ≠ 0 := fun h0 => by rw [gOF, if_pos h0] at h; cases h
theorem gOneR_ind (tx : List Nat) (p ch : Nat) (f g : Nat → Int32) (A : Am) : gOneR tx p ch f A = gOneR tx p ch g A := by
  have h9 := gOF_ind tx (gW ch) (gP1 ch p) f g
  unfold gOneR
  rw [← h9.1, ← h9.2.1]
  cases ho : (gOF tx (gW ch) (gP1 ch p) f).1 with
  | false => rw [if_pos rfl, if_pos rfl]
  | true =>
    rw [gDone_ag ch A _ _ (gOF_W ho) (h9.2.2 ho)]
abbrev Zf : Nat → Int32 := fun _ => 0
theorem gOneR_prog {tx : List Nat} {p ch : Nat} {f : Nat → Int32} {A : Am} (hp : p < tx.length) (h : (gOneR tx p ch f A).1 = 0) : p < (gOneR tx p ch f A).2.2.1 := by
  have h1 : gP1 ch p ≤ tx.length := by unfold gP1; split <;> omega
  have h9 := gOF_le tx (gW ch) (gP1 ch p) f h1
  rcases ho : gOF tx (gW ch) (gP1 ch p) f with ⟨ok, q, f2⟩
  rw [gOneR_q ho]
  rw [ho] at h9
  cases ok with
  | false => rw [gOneR, ho, if_pos rfl] at h; exact absurd (show (1 : Int32) = 0 from h) (by decide)
  | true =>
    have hw := gOF_W (show (gOF tx (gW ch) (gP1 ch p) f).1 = true by rw [ho])
    unfold gP1 at h9
    rw [if_neg hw] at h9
    have := h9.1
    dsimp only at this ⊢
    omega
theorem gOneR_len {tx : List Nat} {p ch : Nat} {f : Nat → Int32} {A : Am} (hp : p < tx.length) : p ≤ (gOneR tx p ch f A).2.2.1 ∧ (gOneR tx p ch f A).2.2.1 ≤ tx.length := by
  have h1 : p ≤ gP1 ch p ∧ gP1 ch p ≤ tx.length := by unfold gP1; split <;> omega
  have h9 := gOF_le tx (gW ch) (gP1 ch p) f h1.2
  rcases ho : gOF tx (gW ch) (gP1 ch p) f with ⟨ok, q, f2⟩
  rw [gOneR_q ho]
  rw [ho] at h9
  exact ⟨Nat.le_trans h1.1 h9.1, h9.2⟩
theorem gOneR_ok {tx : List Nat} {p ch : Nat} {f : Nat → Int32} {A : Am} (h : gOk A) : gOk (gOneR tx p ch f A).2.2.2.2 := by
  unfold gOneR
  split
  · exact h
  · split
    · exact h
    · rename_i e; exact gDone_ok h e
/-- all orders from a place on: where the last one begins, reason, cause, place, how many, machine -/
abbrev Wl := Int32 × Int32 × Int32 × Nat × Int32 × Am
def gWell (tx : List Nat) : Nat → Wl → Wl
  | 0, w => w
  | k + 1, w => if w.2.1 = 0 then (match tx[w.2.2.2.1]? with
    | none => w
    | some ch => gWell tx k (nI w.2.2.2.1, (gOneR tx w.2.2.2.1 ch Zf w.2.2.2.2.2).1, (gOneR tx w.2.2.2.1 ch Zf w.2.2.2.2.2).2.1, (gOneR tx w.2.2.2.1 ch Zf w.2.2.2.2.2).2.2.1, w.2.2.2.2.1 + (gOneR tx w.2.2.2.1 ch Zf w.2.2.2.2.2).2.2.2.1, (gOneR tx w.2.2.2.1 ch Zf w.2.2.2.2.2).2.2.2.2)) else w
theorem gWell_re {tx : List Nat} {k : Nat} {w : Wl} (h : w.2.1 ≠ 0) : gWell tx k w = w := by
  cases k with
  | zero => rfl
  | succ k => rw [gWell, if_neg h]
theorem gWell_end {tx : List Nat} {k : Nat} {w : Wl} (h : tx.length ≤ w.2.2.2.1) : gWell tx k w = w := by
  cases k with
  | zero => rfl
  | succ k => rw [gWell, List.getElem?_eq_none h]; split <;> rfl
theorem gWell_s {tx : List Nat} {k p ch : Nat} {be ca mn : Int32} {A : Am} (h : tx[p]? = some ch) : gWell tx (k + 1) (be, 0, ca, p, mn, A) = gWell tx k (nI p, (gOneR tx p ch Zf A).1, (gOneR tx p ch Zf A).2.1, (gOneR tx p ch Zf A).2.2.1, mn + (gOneR tx p ch Zf A).2.2.2.1, (gOneR tx p ch Zf A).2.2.2.2) := by
  rw [gWell, if_pos rfl]; dsimp only; rw [h]
abbrev gWl (tx : List Nat) (A : Am) : Wl := gWell tx tx.length (0, 0, 0, 0, 0, A)
theorem gWell_ok (tx : List Nat) (k : Nat) : ∀ w : Wl, gOk w.2.2.2.2.2 → gOk (gWell tx k w).2.2.2.2.2 := by
  induction k with
  | zero => intro w h; exact h
  | succ k ih =>
    intro w h
    rw [gWell]
    split
    · split
      · exact h
      · exact ih _ (gOneR_ok h)
    · exact h

theorem gOneR_ca {tx : List Nat} {p ch : Nat} {f : Nat → Int32} {A : Am} : (gOneR tx p ch f A).1 = 0 → (gOneR tx p ch f A).2.1 = 0 := by
  unfold gOneR
  split
  · intro h; exact absurd (show (1 : Int32) = 0 from h) (by decide)
  · split
    · intro h; exact absurd (show (2 : Int32) = 0 from h) (by decide)
    · intro _; rfl

set_option maxHeartbeats 4000000 in
theorem m_isWell {l : Launch} (hl : l.stackTraces = false) (E : eEn) (r na a ma dq sb sv sN : Nat) (ml : Int32) (tx : List Nat) (tf : Nat → Int32) (hN : sN ≤ 122) (hn : tx.length ≤ sN) (htx : ∀ i c, tx[i]? = some c → tf i = nI c) (h126 : ∀ c ∈ tx, 32 ≤ c ∧ c ≤ 126) (c : Cm) (S : List (Nat × Enr)) (hok : gOk c.abs) (hS : eBkS c S) (f : Nat → Int32)  : eMet l E yX12_isWell (ws_ yX12_isWell cX12_isWell 1 (some .boolean)) ({ frames := 14, cells := 213 * tx.length, slots := 1104 * tx.length, locals := 285 }) [.ref r] [eO r 11 [.ref c.a, .ref na, .int 0, .int 0, .int 0, .int 0, .int 0, .ref a], eIA E na 3 f, eMac E c, eO a 0 [.ref ma, .ref dq, .ref sb], eSB E sb sv sN ml tx.length tf, eSto S] (fun w Γ => w = some (.int (eB (decide ((gWl tx c.abs).2.1 = 0)))) ∧ ∃ f2 c2 S2, Γ = [eRd r c2.a na (nI (gWl tx c.abs).2.2.2.1) (gWl tx c.abs).1 (gWl tx c.abs).2.1 (gWl tx c.abs).2.2.1 (gWl tx c.abs).2.2.2.2.1 a, eIA E na 3 f2, eMac E c2, eO a 0 [.ref ma, .ref dq, .ref sb], eSB E sb sv sN ml tx.length tf, eSto S2] ∧ c2.abs = (gWl tx c.abs).2.2.2.2.2 ∧ eBkS c2 S2 ∧ (∀ z ∈ S, z ∈ S2) ∧ c2.a = c.a) := by
  refine eStart (cc := cX12_isWell) (nL := 1) (L := [some (.ref r)]) hl (by decide) rfl (List.forall_mem_cons.mpr ⟨rfl, (fun _ h => absurd h List.not_mem_nil)⟩) (Nat.le_of_ble_eq_true rfl) ?_
  intro x rs C
  show eZ x E (eQ x E (fun w Γ => w = some (.int (eB (decide ((gWl tx c.abs).2.1 = 0)))) ∧ ∃ f2 c2 S2, Γ = [eRd r c2.a na (nI (gWl tx c.abs).2.2.2.1) (gWl tx c.abs).1 (gWl tx c.abs).2.1 (gWl tx c.abs).2.2.1 (gWl tx c.abs).2.2.2.2.1 a, eIA E na 3 f2, eMac E c2, eO a 0 [.ref ma, .ref dq, .ref sb], eSB E sb sv sN ml tx.length tf, eSto S2] ∧ c2.abs = (gWl tx c.abs).2.2.2.2.2 ∧ eBkS c2 S2 ∧ (∀ z ∈ S, z ∈ S2) ∧ c2.a = c.a) rs) [eO r 11 [.ref c.a, .ref na, .int 0, .int 0, .int 0, .int 0, .int 0, .ref a], eIA E na 3 f, eMac E c, eO a 0 [.ref ma, .ref dq, .ref sb], eSB E sb sv sN ml tx.length tf, eSto S, rs] 0 [some (.ref r)] [] 0 0
  generalize hQ_ : eQ x E (fun w Γ => w = some (.int (eB (decide ((gWl tx c.abs).2.1 = 0)))) ∧ ∃ f2 c2 S2, Γ = [eRd r c2.a na (nI (gWl tx c.abs).2.2.2.1) (gWl tx c.abs).1 (gWl tx c.abs).2.1 (gWl tx c.abs).2.2.1 (gWl tx c.abs).2.2.2.2.1 a, eIA E na 3 f2, eMac E c2, eO a 0 [.ref ma, .ref dq, .ref sb], eSB E sb sv sN ml tx.length tf, eSto S2] ∧ c2.abs = (gWl tx c.abs).2.2.2.2.2 ∧ eBkS c2 S2 ∧ (∀ z ∈ S, z ∈ S2) ∧ c2.a = c.a) rs = Q_
  have F : ∀ (be re ca mn : Int32) (p : Nat) (f : Nat → Int32) (c1 : Cm) (S1 : List (Nat × Enr)), p ≤ tx.length → (be, re, ca, p, mn, c1.abs) = gWl tx c.abs → eBkS c1 S1 → (∀ z ∈ S, z ∈ S1) → c1.a = c.a → eZ x E Q_ [eO r 11 [.ref c1.a, .ref na, .int (nI p), .int be, .int re, .int ca, .int mn, .ref a], eIA E na 3 f, eMac E c1, eO a 0 [.ref ma, .ref dq, .ref sb], eSB E sb sv sN ml tx.length tf, eSto S1, rs] 39 [some (.ref r)] [] (213 * p) (1104 * p) := by
    intro be re ca mn p f c1 S1 hp hR hS1 hSS hca1
    refine z_aload_n C dX12_isWell_39 rfl rfl ?_
    refine z_get eK11 0 4 C dX12_isWell_40 rfl rfl q1546 (eSame1 rfl) (by decide) rfl ?_
    refine z_if_ne 50 C dX12_isWell_43 (by decide) (fun h1 => ?_) (fun h1 => ?_)
    · refine z_iconst (v := 0) C dX12_isWell_50 (by decide) ?_
      subst hQ_
      exact z_ret (Γ := [eO r 11 [.ref c1.a, .ref na, .int (nI p), .int be, .int re, .int ca, .int mn, .ref a], eIA E na 3 f, eMac E c1, eO a 0 [.ref ma, .ref dq, .ref sb], eSB E sb sv sN ml tx.length tf, eSto S1]) C dX12_isWell_51 rfl rfl (by (try dsimp only); omega) (by (try dsimp only); omega) ⟨by rw [← hR]; show _ = some (Value.int (eB (decide (re = 0)))); rw [decide_eq_false h1]; rfl, f, c1, S1, by rw [← hR], by rw [← hR], hS1, hSS, hca1⟩
    · refine z_iconst (v := 1) C dX12_isWell_46 (by decide) ?_
      refine z_goto 51 C dX12_isWell_47 (by decide) ?_
      subst hQ_
      exact z_ret (Γ := [eO r 11 [.ref c1.a, .ref na, .int (nI p), .int be, .int re, .int ca, .int mn, .ref a], eIA E na 3 f, eMac E c1, eO a 0 [.ref ma, .ref dq, .ref sb], eSB E sb sv sN ml tx.length tf, eSto S1]) C dX12_isWell_51 rfl rfl (by (try dsimp only); omega) (by (try dsimp only); omega) ⟨by rw [← hR]; show _ = some (Value.int (eB (decide (re = 0)))); rw [decide_eq_true h1]; rfl, f, c1, S1, by rw [← hR], by rw [← hR], hS1, hSS, hca1⟩
  have K : ∀ (d : Nat) (be re ca mn : Int32) (p : Nat) (f : Nat → Int32) (c1 : Cm) (S1 : List (Nat × Enr)), p ≤ tx.length → tx.length ≤ p + d ∨ re ≠ 0 → gWell tx d (be, re, ca, p, mn, c1.abs) = gWl tx c.abs → gOk c1.abs → eBkS c1 S1 → (∀ z ∈ S, z ∈ S1) → c1.a = c.a → (re = 0 → ca = 0) → eZ x E Q_ [eO r 11 [.ref c1.a, .ref na, .int (nI p), .int be, .int re, .int ca, .int mn, .ref a], eIA E na 3 f, eMac E c1, eO a 0 [.ref ma, .ref dq, .ref sb], eSB E sb sv sN ml tx.length tf, eSto S1, rs] 0 [some (.ref r)] [] (213 * p) (1104 * p) := by
    intro d
    induction d with
    | zero =>
        intro be re ca mn p f c1 S1 hp hd hR hok1 hS1 hSS hca1 hca0
        refine z_aload_n C dX12_isWell_0 rfl rfl ?_
        refine z_get eK11 0 4 C dX12_isWell_1 rfl rfl q1546 (eSame1 rfl) (by decide) rfl ?_
        refine z_if_ne 39 C dX12_isWell_4 (by decide) (fun h1 => ?_) (fun h1 => ?_)
        · exact F be re ca mn p f c1 S1 hp (by rw [← hR, gWell_re h1]) hS1 hSS hca1
        · obtain rfl : re = 0 := h1
          obtain rfl : ca = 0 := hca0 rfl
          refine z_aload_n C dX12_isWell_7 rfl rfl ?_
          refine z_get eK11 0 2 C dX12_isWell_8 rfl rfl q1543 (eSame1 rfl) (by decide) rfl ?_
          refine z_aload_n C dX12_isWell_11 rfl rfl ?_
          refine z_get eK11 0 7 C dX12_isWell_12 rfl rfl q1552 (eSame1 rfl) (by decide) rfl ?_
          refine z_getN eK0 3 2 C dX12_isWell_15 rfl rfl q401 (eSame1 rfl) (by decide) rfl ?_
          refine z_callV (r := (RJ10, TJ10, 4)) (As := []) (rest := [.int (nI p)]) (Δ := [eO r 11 [.ref c1.a, .ref na, .int (nI p), .int be, .int 0, .int 0, .int mn, .ref a], eIA E na 3 f, eMac E c1, eO a 0 [.ref ma, .ref dq, .ref sb], eSto S1, rs]) [4] [0, 1, 2, 3, 5, 6] 0 (m_SB_length hl E sb sv sN ml tx.length tf) C dX12_isWell_18 rfl rfl (eIn (i := 4) rfl eSB_mem) rfl rfl q1574 q744 q1952 q64 q745 (by decide +kernel) rfl (ePm 7 rfl (by decide +kernel)) rfl rfl ⟨Nat.le_of_ble_eq_true rfl, Nat.le_of_ble_eq_true rfl⟩ (Nat.le_trans (eSm rfl eS0) (Nat.le_of_ble_eq_true rfl)) ⟨by first | omega | (dsimp only; omega), by first | omega | (dsimp only; omega)⟩ (fun v_ Γ_ hp_ => ?_)
          obtain ⟨rfl, rfl⟩ := hp_
          show eZ x E _ [eSB E sb sv sN ml tx.length tf, eO r 11 [.ref c1.a, .ref na, .int (nI p), .int be, .int 0, .int 0, .int mn, .ref a], eIA E na 3 f, eMac E c1, eO a 0 [.ref ma, .ref dq, .ref sb], eSto S1, rs] 21 [some (.ref r)] [.int (nI tx.length), .int (nI p)] (213 * p) (1104 * p)
          refine z_icmp_ge 39 C dX12_isWell_21 (by decide) (fun h_ => ?_) (fun h_ => absurd h_ (absurd (by rw [show p = tx.length from by rcases hd with h | h; omega; exact absurd rfl h]; exact Int32.le_refl _) h_))
          refine z_pick (Γ' := [eO r 11 [.ref c1.a, .ref na, .int (nI p), .int be, .int 0, .int 0, .int mn, .ref a], eIA E na 3 f, eMac E c1, eO a 0 [.ref ma, .ref dq, .ref sb], eSB E sb sv sN ml tx.length tf, eSto S1, rs]) [1, 2, 3, 4, 0, 5, 6] (ePm 7 rfl (by decide +kernel)) rfl ?_
          exact F be 0 0 mn p f c1 S1 hp hR hS1 hSS hca1
    | succ d ih =>
        intro be re ca mn p f c1 S1 hp hd hR hok1 hS1 hSS hca1 hca0
        refine z_aload_n C dX12_isWell_0 rfl rfl ?_
        refine z_get eK11 0 4 C dX12_isWell_1 rfl rfl q1546 (eSame1 rfl) (by decide) rfl ?_
        refine z_if_ne 39 C dX12_isWell_4 (by decide) (fun h1 => ?_) (fun h1 => ?_)
        · exact F be re ca mn p f c1 S1 hp (by rw [← hR, gWell_re h1]) hS1 hSS hca1
        · obtain rfl : re = 0 := h1
          obtain rfl : ca = 0 := hca0 rfl
          refine z_aload_n C dX12_isWell_7 rfl rfl ?_
          refine z_get eK11 0 2 C dX12_isWell_8 rfl rfl q1543 (eSame1 rfl) (by decide) rfl ?_
          refine z_aload_n C dX12_isWell_11 rfl rfl ?_
          refine z_get eK11 0 7 C dX12_isWell_12 rfl rfl q1552 (eSame1 rfl) (by decide) rfl ?_
          refine z_getN eK0 3 2 C dX12_isWell_15 rfl rfl q401 (eSame1 rfl) (by decide) rfl ?_
          refine z_callV (r := (RJ10, TJ10, 4)) (As := []) (rest := [.int (nI p)]) (Δ := [eO r 11 [.ref c1.a, .ref na, .int (nI p), .int be, .int 0, .int 0, .int mn, .ref a], eIA E na 3 f, eMac E c1, eO a 0 [.ref ma, .ref dq, .ref sb], eSto S1, rs]) [4] [0, 1, 2, 3, 5, 6] 0 (m_SB_length hl E sb sv sN ml tx.length tf) C dX12_isWell_18 rfl rfl (eIn (i := 4) rfl eSB_mem) rfl rfl q1574 q744 q1952 q64 q745 (by decide +kernel) rfl (ePm 7 rfl (by decide +kernel)) rfl rfl ⟨Nat.le_of_ble_eq_true rfl, Nat.le_of_ble_eq_true rfl⟩ (Nat.le_trans (eSm rfl eS0) (Nat.le_of_ble_eq_true rfl)) ⟨by first | omega | (dsimp only; omega), by first | omega | (dsimp only; omega)⟩ (fun v_ Γ_ hp_ => ?_)
          obtain ⟨rfl, rfl⟩ := hp_
          show eZ x E _ [eSB E sb sv sN ml tx.length tf, eO r 11 [.ref c1.a, .ref na, .int (nI p), .int be, .int 0, .int 0, .int mn, .ref a], eIA E na 3 f, eMac E c1, eO a 0 [.ref ma, .ref dq, .ref sb], eSto S1, rs] 21 [some (.ref r)] [.int (nI tx.length), .int (nI p)] (213 * p) (1104 * p)
          refine z_icmp_ge 39 C dX12_isWell_21 (by decide) (fun h2 => ?_) (fun h2 => ?_)
          · refine z_pick (Γ' := [eO r 11 [.ref c1.a, .ref na, .int (nI p), .int be, .int 0, .int 0, .int mn, .ref a], eIA E na 3 f, eMac E c1, eO a 0 [.ref ma, .ref dq, .ref sb], eSB E sb sv sN ml tx.length tf, eSto S1, rs]) [1, 2, 3, 4, 0, 5, 6] (ePm 7 rfl (by decide +kernel)) rfl ?_
            exact F be 0 0 mn p f c1 S1 hp (by rw [← hR]; exact (gWell_end (by show tx.length ≤ p; rcases Nat.lt_or_ge p tx.length with h | h; exact absurd h2 (Int32.not_le.mpr (nI_lt h (by omega))); exact h)).symm) hS1 hSS hca1
          · have hlt : p < tx.length := by rcases Nat.lt_or_ge p tx.length with h | h; exact h; exact absurd (nI_le h (by omega)) h2
            obtain ⟨ch, hc⟩ : ∃ ch, tx[p]? = some ch := ⟨_, List.getElem?_eq_getElem hlt⟩
            refine z_aload_n C dX12_isWell_24 rfl rfl ?_
            refine z_aload_n C dX12_isWell_25 rfl rfl ?_
            refine z_get eK11 1 2 C dX12_isWell_26 rfl rfl q1543 (eSame1 rfl) (by decide) rfl ?_
            refine z_put eK11 1 3 (Γ2 := [eSB E sb sv sN ml tx.length tf, eO r 11 [.ref c1.a, .ref na, .int (nI p), .int (nI p), .int 0, .int 0, .int mn, .ref a], eIA E na 3 f, eMac E c1, eO a 0 [.ref ma, .ref dq, .ref sb], eSto S1, rs]) C dX12_isWell_29 rfl rfl q1544 (eSame1 rfl) (by decide) rfl rfl rfl rfl (Nat.le_of_ble_eq_true rfl) rfl ?_
            refine z_aload_n C dX12_isWell_32 rfl rfl ?_
            have hin : gOneR tx p ch f c1.abs = gOneR tx p ch Zf c1.abs := gOneR_ind tx p ch f Zf c1.abs
            have hle := gOneR_len (tx := tx) (p := p) (ch := ch) (f := Zf) (A := c1.abs) hlt
            refine z_callWX (r := (RX12, TX12, 8)) (As := []) (rest := []) (Δ := [rs]) [1, 2, 3, 4, 0, 5] [6] 0 (m_one hl E r na a ma dq sb sv sN ml tx tf hN hn htx h126 c1 S1 hok1 hS1 f mn p ch hc) C dX12_isWell_33 rfl rfl (eIn (i := 1) rfl List.mem_cons_self) rfl rfl q1575 q1577 qs23 q91 q1578 (by decide +kernel) rfl (ePm 7 rfl (by decide +kernel)) rfl rfl ⟨Nat.le_of_ble_eq_true rfl, Nat.le_of_ble_eq_true rfl⟩ (Nat.le_trans eS0 (Nat.le_of_ble_eq_true rfl)) ⟨by (try dsimp only); rw [hin]; omega, by (try dsimp only); rw [hin]; omega⟩ (fun _ _ _ h => h.elim) (fun v_ Γ_ hp_ => ?_)
            obtain ⟨rfl, c2, S2, rfl, hab2, hS2, hSS2, hca2⟩ := hp_
            rw [hin] at hab2 ⊢
            show eZ x E _ [eO r 11 [.ref c2.a, .ref na, .int (nI (gOneR tx p ch Zf c1.abs).2.2.1), .int (nI p), .int ((gOneR tx p ch Zf c1.abs).1), .int ((gOneR tx p ch Zf c1.abs).2.1), .int (mn + (gOneR tx p ch Zf c1.abs).2.2.2.1), .ref a], eIA E na 3 ((gOF tx (gW ch) (gP1 ch p) f).2.2), eMac E c2, eO a 0 [.ref ma, .ref dq, .ref sb], eSB E sb sv sN ml tx.length tf, eSto S2, rs] 36 [some (.ref r)] [] ((213 * p) + (213 * ((gOneR tx p ch Zf c1.abs).2.2.1 - p))) ((1104 * p) + (1104 * ((gOneR tx p ch Zf c1.abs).2.2.1 - p)))
            refine z_goto 0 C dX12_isWell_36 (by decide) ?_
            refine z_wide (k' := 213 * (gOneR tx p ch Zf c1.abs).2.2.1) (n' := 1104 * (gOneR tx p ch Zf c1.abs).2.2.1) (by (try dsimp only); omega) (by (try dsimp only); omega) ?_
            exact ih _ _ _ _ _ _ c2 S2 hle.2 (by by_cases hz : (gOneR tx p ch Zf c1.abs).1 = 0; left; have := gOneR_prog hlt hz; rcases hd with h | h; omega; exact absurd rfl h; exact Or.inr hz) (by rw [← hR, gWell_s hc, hab2]) (by rw [hab2]; exact gOneR_ok hok1) hS2 (fun z hz => hSS2 z (hSS z hz)) (hca2.trans hca1) gOneR_ca
  refine z_wide (k' := 213 * 0) (n' := 1104 * 0) (Nat.le_refl _) (Nat.le_refl _) ?_
  exact K tx.length 0 0 0 0 0 f c S (Nat.zero_le _) (Or.inl (by omega)) rfl hok hS (fun z h => h) rfl (fun _ => rfl)

def gFaultQ (A : As) (w : Int32) : Int32 := if eBt w 0 2 = true then (if (gWl A.tx A.m).2.1 = 0 then -1000004 else if w = 0 then (gWl A.tx A.m).1 else if w = 1 then (gWl A.tx A.m).2.1 else (gWl A.tx A.m).2.2.1) else -1000001
def gPlay (A : As) : Int32 × As := if (gWl A.tx A.m).2.1 = 0 then ((gWl A.tx A.m).2.2.2.2.1, ((gWl A.tx A.m).2.2.2.2.2, gHist A.hs A.m, A.tx)) else (-1000002, A)

set_option maxHeartbeats 4000000 in
theorem m_fault {l : Launch} (hl : l.stackTraces = false) (E : eEn) (s : Sy) (hs : sOk s) (v : Int32) : eMet l E yX0_fault (ws_ yX0_fault cX0_fault 3 (some .int)) ({ frames := 15, cells := 112 + 213 * s.tx.length, slots := 480 + 1104 * s.tx.length, locals := 305 }) [.ref s.a, .int v] [eSys E s] (sPost E s (gFaultQ s.abs v, s.abs)) := by
  refine eStart (cc := cX0_fault) (nL := 3) (L := [some (.ref s.a), some (.int v), none]) hl (by decide) rfl (List.forall_mem_cons.mpr ⟨rfl, (List.forall_mem_cons.mpr ⟨rfl, (fun _ h => absurd h List.not_mem_nil)⟩)⟩) (Nat.le_of_ble_eq_true rfl) ?_
  intro x rs C
  show eZ x E (eQ x E (sPost E s (gFaultQ s.abs v, s.abs)) rs) [eSys E s, rs] 0 [some (.ref s.a), some (.int v), none] [] 0 0
  generalize hQ_ : eQ x E (sPost E s (gFaultQ s.abs v, s.abs)) rs = Q_
  have hs0 := hs
  refine z_iload_n C dX0_fault_0 rfl rfl ?_
  refine z_i2l (v := v.toInt64) C dX0_fault_1 rfl ?_
  refine z_lconst (v := 0) C dX0_fault_2 (by decide) ?_
  refine z_ldc2 C dX0_fault_3 rfl q1531 ?_
  refine z_callS (As := [.long v.toInt64, .long 0, .long 2]) (rest := []) (Δ := [eSys E s, rs]) [] [0, 1] 3 (m_bt hl E v 0 2 0 2 (by decide) (by decide)) C dX0_fault_6 rfl rfl rfl q986 q987 q49 q988 (by decide +kernel) rfl (ePm 2 rfl (by decide +kernel)) rfl rfl ⟨Nat.le_of_ble_eq_true rfl, Nat.le_of_ble_eq_true rfl⟩ (Nat.le_trans eS0 (Nat.le_of_ble_eq_true rfl)) ⟨Nat.le_of_ble_eq_true rfl, Nat.le_of_ble_eq_true rfl⟩ (fun v_ Γ_ hp_ => ?_)
  obtain ⟨rfl, rfl⟩ := hp_
  show eZ x E _ [eSys E s, rs] 9 [some (.ref s.a), some (.int v), none] [.int (eB (eBt v 0 2))] 0 0
  refine z_if_ne_B 15 C dX0_fault_9 (by decide) (fun hb => ?_) (fun hb => ?_)
  · obtain ⟨hs1, hs2, hs3, hs4, hs5, hs6⟩ := hs
    obtain ⟨ht1, ht2, ht3, ht4, ht5, ht6⟩ := hs6
    refine z_cut 0 (bs := [eO s.a 0 [.ref s.m.a, .ref s.dq, .ref s.sb], eMac E s.m, eAD E s.dq s.da s.dh (hA s.hs), eMacs E s.hs, eSB E s.sb s.sv s.sN s.ml s.tx.length s.tf, eSto s.S]) rfl eSys_cut rfl ?_
    show eZ x E _ [eO s.a 0 [.ref s.m.a, .ref s.dq, .ref s.sb], eMac E s.m, eAD E s.dq s.da s.dh (hA s.hs), eMacs E s.hs, eSB E s.sb s.sv s.sN s.ml s.tx.length s.tf, eSto s.S, rs] 15 [some (.ref s.a), some (.int v), none] [] 0 0
    refine z_new (fs := [.null, .null, .int 0, .int 0, .int 0, .int 0, .int 0, .null]) eK11 C dX0_fault_15 rfl q1532 q1533 q91 rfl (by (try dsimp only); omega) (by (try dsimp only); omega) (fun o1 => ?_)
    show eZ x E _ [eO s.a 0 [.ref s.m.a, .ref s.dq, .ref s.sb], eMac E s.m, eAD E s.dq s.da s.dh (hA s.hs), eMacs E s.hs, eSB E s.sb s.sv s.sN s.ml s.tx.length s.tf, eSto s.S, rs, eO o1 11 [.null, .null, .int 0, .int 0, .int 0, .int 0, .int 0, .null]] 18 [some (.ref s.a), some (.int v), none] [.ref o1] 1 8
    refine z_dup C dX0_fault_18 rfl ?_
    refine z_aload_n C dX0_fault_19 rfl rfl ?_
    refine z_callIN (As := [.ref s.a]) (rest := [.ref o1]) (Δ := [eAD E s.dq s.da s.dh (hA s.hs), eMacs E s.hs, eSB E s.sb s.sv s.sN s.ml s.tx.length s.tf, rs]) [7, 0, 1, 5] [2, 3, 4, 6] 1 (m_Rd_init hl E o1 s.a s.dq s.sb s.m s.S hs1 hs2) C dX0_fault_20 rfl rfl rfl q1534 q1535 q91 q1536 rfl (by decide +kernel) rfl (ePm 8 rfl (by decide +kernel)) rfl rfl ⟨Nat.le_of_ble_eq_true rfl, Nat.le_of_ble_eq_true rfl⟩ (Nat.le_trans (eSm rfl eS0) (Nat.le_of_ble_eq_true rfl)) ⟨by first | omega | (dsimp only; omega), by first | omega | (dsimp only; omega)⟩ (fun v_ Γ_ hp_ => ?_)
    obtain ⟨rfl, c2, na, rfl, hab, hS2⟩ := hp_
    show eZ x E _ [eO o1 11 [.ref c2.a, .ref na, .int 0, .int 0, .int 0, .int 0, .int 0, .ref s.a], eIA E na 3 (fun _ => 0), eMac E c2, eO s.a 0 [.ref s.m.a, .ref s.dq, .ref s.sb], eMac E s.m, eSto s.S, eAD E s.dq s.da s.dh (hA s.hs), eMacs E s.hs, eSB E s.sb s.sv s.sN s.ml s.tx.length s.tf, rs] 23 [some (.ref s.a), some (.int v), none] [.ref o1] 104 480
    have hok2 : gOk c2.abs := by rw [hab]; exact hs1
    refine z_astore_n (L2 := [some (.ref s.a), some (.int v), some (.ref o1)]) C dX0_fault_23 rfl (Nat.le_of_ble_eq_true rfl) rfl ?_
    refine z_aload_n C dX0_fault_24 rfl rfl ?_
    refine z_callV (r := (RX12, TX12, 8)) (As := []) (rest := []) (Δ := [eMac E s.m, eAD E s.dq s.da s.dh (hA s.hs), eMacs E s.hs, rs]) [0, 1, 2, 3, 8, 5] [4, 6, 7, 9] 0 (m_isWell hl E o1 na s.a s.m.a s.dq s.sb s.sv s.sN s.ml s.tx s.tf ht3 ht2 ht6 ht5 c2 s.S hok2 hS2 (fun _ => 0)) C dX0_fault_25 rfl rfl (eIn (i := 0) rfl List.mem_cons_self) rfl rfl q1570 q1571 q1572 q91 q1573 (by decide +kernel) rfl (ePm 10 rfl (by decide +kernel)) rfl rfl ⟨Nat.le_of_ble_eq_true rfl, Nat.le_of_ble_eq_true rfl⟩ (Nat.le_trans eS0 (Nat.le_of_ble_eq_true rfl)) ⟨by first | omega | (dsimp only; omega), by first | omega | (dsimp only; omega)⟩ (fun v_ Γ_ hp_ => ?_)
    obtain ⟨rfl, f3, c3, S3, rfl, hab3, hS3, hSS3, hca3⟩ := hp_
    rw [hab] at hab3 ⊢
    show eZ x E _ [eO o1 11 [.ref c3.a, .ref na, .int (nI (gWl s.tx s.m.abs).2.2.2.1), .int ((gWl s.tx s.m.abs).1), .int ((gWl s.tx s.m.abs).2.1), .int ((gWl s.tx s.m.abs).2.2.1), .int ((gWl s.tx s.m.abs).2.2.2.2.1), .ref s.a], eIA E na 3 f3, eMac E c3, eO s.a 0 [.ref s.m.a, .ref s.dq, .ref s.sb], eSB E s.sb s.sv s.sN s.ml s.tx.length s.tf, eSto S3, eMac E s.m, eAD E s.dq s.da s.dh (hA s.hs), eMacs E s.hs, rs] 28 [some (.ref s.a), some (.int v), some (.ref o1)] [.int (eB (decide ((gWl s.tx s.m.abs).2.1 = 0)))] (104 + (213 * s.tx.length)) (480 + (1104 * s.tx.length))
    refine z_if_eq_B 34 C dX0_fault_28 (by decide) (fun h1 => ?_) (fun h1 => ?_)
    · have h1n := of_decide_eq_false h1
      refine z_iload_n C dX0_fault_34 rfl rfl ?_
      refine z_if_ne 45 C dX0_fault_35 (by decide) (fun h2 => ?_) (fun h2 => ?_)
      · refine z_iload_n C dX0_fault_45 rfl rfl ?_
        refine z_iconst (v := 1) C dX0_fault_46 (by decide) ?_
        refine z_icmp_ne 57 C dX0_fault_47 (by decide) (fun h3 => ?_) (fun h3 => ?_)
        · refine z_aload_n C dX0_fault_57 rfl rfl ?_
          refine z_getN eK11 0 5 C dX0_fault_58 rfl rfl q1549 (eSame1 rfl) (by decide) rfl ?_
          refine z_pick (Γ' := [eO s.a 0 [.ref s.m.a, .ref s.dq, .ref s.sb], eMac E s.m, eAD E s.dq s.da s.dh (hA s.hs), eMacs E s.hs, eSB E s.sb s.sv s.sN s.ml s.tx.length s.tf, eSto S3, eO o1 11 [.ref c3.a, .ref na, .int (nI (gWl s.tx s.m.abs).2.2.2.1), .int ((gWl s.tx s.m.abs).1), .int ((gWl s.tx s.m.abs).2.1), .int ((gWl s.tx s.m.abs).2.2.1), .int ((gWl s.tx s.m.abs).2.2.2.2.1), .ref s.a], eIA E na 3 f3, eMac E c3, rs]) [3, 6, 7, 8, 4, 5, 0, 1, 2, 9] (ePm 10 rfl (by decide +kernel)) rfl ?_
          refine z_join 6 (b := eSys E (s.a, s.m, s.dq, s.da, s.dh, s.hs, s.sb, s.sv, s.sN, s.ml, s.tx, s.tf, S3)) (by rw [eSys_cut]; rfl) rfl ?_
          show eZ x E _ [eSys E (s.a, s.m, s.dq, s.da, s.dh, s.hs, s.sb, s.sv, s.sN, s.ml, s.tx, s.tf, S3), eO o1 11 [.ref c3.a, .ref na, .int (nI (gWl s.tx s.m.abs).2.2.2.1), .int ((gWl s.tx s.m.abs).1), .int ((gWl s.tx s.m.abs).2.1), .int ((gWl s.tx s.m.abs).2.2.1), .int ((gWl s.tx s.m.abs).2.2.2.2.1), .ref s.a], eIA E na 3 f3, eMac E c3, rs] 61 [some (.ref s.a), some (.int v), some (.ref o1)] [.int ((gWl s.tx s.m.abs).2.2.1)] (104 + (213 * s.tx.length)) (480 + (1104 * s.tx.length))
          refine z_pick (Γ' := [eO o1 11 [.ref c3.a, .ref na, .int (nI (gWl s.tx s.m.abs).2.2.2.1), .int ((gWl s.tx s.m.abs).1), .int ((gWl s.tx s.m.abs).2.1), .int ((gWl s.tx s.m.abs).2.2.1), .int ((gWl s.tx s.m.abs).2.2.2.2.1), .ref s.a], eIA E na 3 f3, eMac E c3, eSys E (s.a, s.m, s.dq, s.da, s.dh, s.hs, s.sb, s.sv, s.sN, s.ml, s.tx, s.tf, S3), rs]) [1, 2, 3, 0, 4] (ePm 5 rfl (by decide +kernel)) rfl ?_
          refine z_drop ?_
          refine z_drop ?_
          refine z_drop ?_
          show eZ x E _ [eSys E (s.a, s.m, s.dq, s.da, s.dh, s.hs, s.sb, s.sv, s.sN, s.ml, s.tx, s.tf, S3), rs] 61 [some (.ref s.a), some (.int v), some (.ref o1)] [.int ((gWl s.tx s.m.abs).2.2.1)] (104 + (213 * s.tx.length)) (480 + (1104 * s.tx.length))
          subst hQ_
          exact z_ret (Γ := [eSys E (s.a, s.m, s.dq, s.da, s.dh, s.hs, s.sb, s.sv, s.sN, s.ml, s.tx, s.tf, S3)]) C dX0_fault_61 rfl rfl (by (try dsimp only); omega) (by (try dsimp only); omega) ⟨(s.a, s.m, s.dq, s.da, s.dh, s.hs, s.sb, s.sv, s.sN, s.ml, s.tx, s.tf, S3), by rw [gFaultQ, if_pos hb]; show _ = some (Value.int (if (gWl s.tx s.m.abs).2.1 = 0 then _ else _)); rw [if_neg h1n, if_neg h2, if_neg h3]; try rfl, rfl, rfl, ⟨hs1, fun z hz => hSS3 _ (hs2 z hz), fun h hh => ⟨(hs3 h hh).1, fun z hz => hSS3 _ ((hs3 h hh).2 z hz)⟩, hs4, hs5, ⟨ht1, ht2, ht3, ht4, ht5, ht6⟩⟩, rfl⟩
        · refine z_aload_n C dX0_fault_50 rfl rfl ?_
          refine z_getN eK11 0 4 C dX0_fault_51 rfl rfl q1547 (eSame1 rfl) (by decide) rfl ?_
          refine z_goto 61 C dX0_fault_54 (by decide) ?_
          refine z_pick (Γ' := [eO s.a 0 [.ref s.m.a, .ref s.dq, .ref s.sb], eMac E s.m, eAD E s.dq s.da s.dh (hA s.hs), eMacs E s.hs, eSB E s.sb s.sv s.sN s.ml s.tx.length s.tf, eSto S3, eO o1 11 [.ref c3.a, .ref na, .int (nI (gWl s.tx s.m.abs).2.2.2.1), .int ((gWl s.tx s.m.abs).1), .int ((gWl s.tx s.m.abs).2.1), .int ((gWl s.tx s.m.abs).2.2.1), .int ((gWl s.tx s.m.abs).2.2.2.2.1), .ref s.a], eIA E na 3 f3, eMac E c3, rs]) [3, 6, 7, 8, 4, 5, 0, 1, 2, 9] (ePm 10 rfl (by decide +kernel)) rfl ?_
          refine z_join 6 (b := eSys E (s.a, s.m, s.dq, s.da, s.dh, s.hs, s.sb, s.sv, s.sN, s.ml, s.tx, s.tf, S3)) (by rw [eSys_cut]; rfl) rfl ?_
          show eZ x E _ [eSys E (s.a, s.m, s.dq, s.da, s.dh, s.hs, s.sb, s.sv, s.sN, s.ml, s.tx, s.tf, S3), eO o1 11 [.ref c3.a, .ref na, .int (nI (gWl s.tx s.m.abs).2.2.2.1), .int ((gWl s.tx s.m.abs).1), .int ((gWl s.tx s.m.abs).2.1), .int ((gWl s.tx s.m.abs).2.2.1), .int ((gWl s.tx s.m.abs).2.2.2.2.1), .ref s.a], eIA E na 3 f3, eMac E c3, rs] 61 [some (.ref s.a), some (.int v), some (.ref o1)] [.int ((gWl s.tx s.m.abs).2.1)] (104 + (213 * s.tx.length)) (480 + (1104 * s.tx.length))
          refine z_pick (Γ' := [eO o1 11 [.ref c3.a, .ref na, .int (nI (gWl s.tx s.m.abs).2.2.2.1), .int ((gWl s.tx s.m.abs).1), .int ((gWl s.tx s.m.abs).2.1), .int ((gWl s.tx s.m.abs).2.2.1), .int ((gWl s.tx s.m.abs).2.2.2.2.1), .ref s.a], eIA E na 3 f3, eMac E c3, eSys E (s.a, s.m, s.dq, s.da, s.dh, s.hs, s.sb, s.sv, s.sN, s.ml, s.tx, s.tf, S3), rs]) [1, 2, 3, 0, 4] (ePm 5 rfl (by decide +kernel)) rfl ?_
          refine z_drop ?_
          refine z_drop ?_
          refine z_drop ?_
          show eZ x E _ [eSys E (s.a, s.m, s.dq, s.da, s.dh, s.hs, s.sb, s.sv, s.sN, s.ml, s.tx, s.tf, S3), rs] 61 [some (.ref s.a), some (.int v), some (.ref o1)] [.int ((gWl s.tx s.m.abs).2.1)] (104 + (213 * s.tx.length)) (480 + (1104 * s.tx.length))
          subst hQ_
          exact z_ret (Γ := [eSys E (s.a, s.m, s.dq, s.da, s.dh, s.hs, s.sb, s.sv, s.sN, s.ml, s.tx, s.tf, S3)]) C dX0_fault_61 rfl rfl (by (try dsimp only); omega) (by (try dsimp only); omega) ⟨(s.a, s.m, s.dq, s.da, s.dh, s.hs, s.sb, s.sv, s.sN, s.ml, s.tx, s.tf, S3), by rw [gFaultQ, if_pos hb]; show _ = some (Value.int (if (gWl s.tx s.m.abs).2.1 = 0 then _ else _)); rw [if_neg h1n, if_neg h2, if_pos h3]; try rfl, rfl, rfl, ⟨hs1, fun z hz => hSS3 _ (hs2 z hz), fun h hh => ⟨(hs3 h hh).1, fun z hz => hSS3 _ ((hs3 h hh).2 z hz)⟩, hs4, hs5, ⟨ht1, ht2, ht3, ht4, ht5, ht6⟩⟩, rfl⟩
      · refine z_aload_n C dX0_fault_38 rfl rfl ?_
        refine z_getN eK11 0 3 C dX0_fault_39 rfl rfl q1545 (eSame1 rfl) (by decide) rfl ?_
        refine z_goto 61 C dX0_fault_42 (by decide) ?_
        refine z_pick (Γ' := [eO s.a 0 [.ref s.m.a, .ref s.dq, .ref s.sb], eMac E s.m, eAD E s.dq s.da s.dh (hA s.hs), eMacs E s.hs, eSB E s.sb s.sv s.sN s.ml s.tx.length s.tf, eSto S3, eO o1 11 [.ref c3.a, .ref na, .int (nI (gWl s.tx s.m.abs).2.2.2.1), .int ((gWl s.tx s.m.abs).1), .int ((gWl s.tx s.m.abs).2.1), .int ((gWl s.tx s.m.abs).2.2.1), .int ((gWl s.tx s.m.abs).2.2.2.2.1), .ref s.a], eIA E na 3 f3, eMac E c3, rs]) [3, 6, 7, 8, 4, 5, 0, 1, 2, 9] (ePm 10 rfl (by decide +kernel)) rfl ?_
        refine z_join 6 (b := eSys E (s.a, s.m, s.dq, s.da, s.dh, s.hs, s.sb, s.sv, s.sN, s.ml, s.tx, s.tf, S3)) (by rw [eSys_cut]; rfl) rfl ?_
        show eZ x E _ [eSys E (s.a, s.m, s.dq, s.da, s.dh, s.hs, s.sb, s.sv, s.sN, s.ml, s.tx, s.tf, S3), eO o1 11 [.ref c3.a, .ref na, .int (nI (gWl s.tx s.m.abs).2.2.2.1), .int ((gWl s.tx s.m.abs).1), .int ((gWl s.tx s.m.abs).2.1), .int ((gWl s.tx s.m.abs).2.2.1), .int ((gWl s.tx s.m.abs).2.2.2.2.1), .ref s.a], eIA E na 3 f3, eMac E c3, rs] 61 [some (.ref s.a), some (.int v), some (.ref o1)] [.int ((gWl s.tx s.m.abs).1)] (104 + (213 * s.tx.length)) (480 + (1104 * s.tx.length))
        refine z_pick (Γ' := [eO o1 11 [.ref c3.a, .ref na, .int (nI (gWl s.tx s.m.abs).2.2.2.1), .int ((gWl s.tx s.m.abs).1), .int ((gWl s.tx s.m.abs).2.1), .int ((gWl s.tx s.m.abs).2.2.1), .int ((gWl s.tx s.m.abs).2.2.2.2.1), .ref s.a], eIA E na 3 f3, eMac E c3, eSys E (s.a, s.m, s.dq, s.da, s.dh, s.hs, s.sb, s.sv, s.sN, s.ml, s.tx, s.tf, S3), rs]) [1, 2, 3, 0, 4] (ePm 5 rfl (by decide +kernel)) rfl ?_
        refine z_drop ?_
        refine z_drop ?_
        refine z_drop ?_
        show eZ x E _ [eSys E (s.a, s.m, s.dq, s.da, s.dh, s.hs, s.sb, s.sv, s.sN, s.ml, s.tx, s.tf, S3), rs] 61 [some (.ref s.a), some (.int v), some (.ref o1)] [.int ((gWl s.tx s.m.abs).1)] (104 + (213 * s.tx.length)) (480 + (1104 * s.tx.length))
        subst hQ_
        exact z_ret (Γ := [eSys E (s.a, s.m, s.dq, s.da, s.dh, s.hs, s.sb, s.sv, s.sN, s.ml, s.tx, s.tf, S3)]) C dX0_fault_61 rfl rfl (by (try dsimp only); omega) (by (try dsimp only); omega) ⟨(s.a, s.m, s.dq, s.da, s.dh, s.hs, s.sb, s.sv, s.sN, s.ml, s.tx, s.tf, S3), by rw [gFaultQ, if_pos hb]; show _ = some (Value.int (if (gWl s.tx s.m.abs).2.1 = 0 then _ else _)); rw [if_neg h1n, if_pos h2]; try rfl, rfl, rfl, ⟨hs1, fun z hz => hSS3 _ (hs2 z hz), fun h hh => ⟨(hs3 h hh).1, fun z hz => hSS3 _ ((hs3 h hh).2 z hz)⟩, hs4, hs5, ⟨ht1, ht2, ht3, ht4, ht5, ht6⟩⟩, rfl⟩
    · refine z_ldc C dX0_fault_31 rfl q1351 ?_
      refine z_pick (Γ' := [eO s.a 0 [.ref s.m.a, .ref s.dq, .ref s.sb], eMac E s.m, eAD E s.dq s.da s.dh (hA s.hs), eMacs E s.hs, eSB E s.sb s.sv s.sN s.ml s.tx.length s.tf, eSto S3, eO o1 11 [.ref c3.a, .ref na, .int (nI (gWl s.tx s.m.abs).2.2.2.1), .int ((gWl s.tx s.m.abs).1), .int ((gWl s.tx s.m.abs).2.1), .int ((gWl s.tx s.m.abs).2.2.1), .int ((gWl s.tx s.m.abs).2.2.2.2.1), .ref s.a], eIA E na 3 f3, eMac E c3, rs]) [3, 6, 7, 8, 4, 5, 0, 1, 2, 9] (ePm 10 rfl (by decide +kernel)) rfl ?_
      refine z_join 6 (b := eSys E (s.a, s.m, s.dq, s.da, s.dh, s.hs, s.sb, s.sv, s.sN, s.ml, s.tx, s.tf, S3)) (by rw [eSys_cut]; rfl) rfl ?_
      show eZ x E _ [eSys E (s.a, s.m, s.dq, s.da, s.dh, s.hs, s.sb, s.sv, s.sN, s.ml, s.tx, s.tf, S3), eO o1 11 [.ref c3.a, .ref na, .int (nI (gWl s.tx s.m.abs).2.2.2.1), .int ((gWl s.tx s.m.abs).1), .int ((gWl s.tx s.m.abs).2.1), .int ((gWl s.tx s.m.abs).2.2.1), .int ((gWl s.tx s.m.abs).2.2.2.2.1), .ref s.a], eIA E na 3 f3, eMac E c3, rs] 33 [some (.ref s.a), some (.int v), some (.ref o1)] [.int (-1000004)] (104 + (213 * s.tx.length)) (480 + (1104 * s.tx.length))
      refine z_pick (Γ' := [eO o1 11 [.ref c3.a, .ref na, .int (nI (gWl s.tx s.m.abs).2.2.2.1), .int ((gWl s.tx s.m.abs).1), .int ((gWl s.tx s.m.abs).2.1), .int ((gWl s.tx s.m.abs).2.2.1), .int ((gWl s.tx s.m.abs).2.2.2.2.1), .ref s.a], eIA E na 3 f3, eMac E c3, eSys E (s.a, s.m, s.dq, s.da, s.dh, s.hs, s.sb, s.sv, s.sN, s.ml, s.tx, s.tf, S3), rs]) [1, 2, 3, 0, 4] (ePm 5 rfl (by decide +kernel)) rfl ?_
      refine z_drop ?_
      refine z_drop ?_
      refine z_drop ?_
      show eZ x E _ [eSys E (s.a, s.m, s.dq, s.da, s.dh, s.hs, s.sb, s.sv, s.sN, s.ml, s.tx, s.tf, S3), rs] 33 [some (.ref s.a), some (.int v), some (.ref o1)] [.int (-1000004)] (104 + (213 * s.tx.length)) (480 + (1104 * s.tx.length))
      subst hQ_
      exact z_ret (Γ := [eSys E (s.a, s.m, s.dq, s.da, s.dh, s.hs, s.sb, s.sv, s.sN, s.ml, s.tx, s.tf, S3)]) C dX0_fault_33 rfl rfl (by (try dsimp only); omega) (by (try dsimp only); omega) ⟨(s.a, s.m, s.dq, s.da, s.dh, s.hs, s.sb, s.sv, s.sN, s.ml, s.tx, s.tf, S3), by rw [gFaultQ, if_pos hb]; show _ = some (Value.int (if (gWl s.tx s.m.abs).2.1 = 0 then _ else _)); rw [if_pos (of_decide_eq_true h1)]; try rfl, rfl, rfl, ⟨hs1, fun z hz => hSS3 _ (hs2 z hz), fun h hh => ⟨(hs3 h hh).1, fun z hz => hSS3 _ ((hs3 h hh).2 z hz)⟩, hs4, hs5, ⟨ht1, ht2, ht3, ht4, ht5, ht6⟩⟩, rfl⟩
  · refine z_ldc C dX0_fault_12 rfl q1335 ?_
    subst hQ_
    exact z_ret (Γ := [eSys E s]) C dX0_fault_14 rfl rfl (Nat.le_of_ble_eq_true rfl) (Nat.le_of_ble_eq_true rfl) ⟨s, by rw [gFaultQ, if_neg (by rw [hb]; decide)], rfl, rfl, hs0, rfl⟩

set_option maxHeartbeats 4000000 in
theorem m_play {l : Launch} (hl : l.stackTraces = false) (E : eEn) (s : Sy) (hs : sOk s) : eMet l E yX0_play (ws_ yX0_play cX0_play 2 (some .int)) ({ frames := 15, cells := 112 + 213 * s.tx.length, slots := 480 + 1104 * s.tx.length, locals := 305 }) [.ref s.a] [eSys E s] (sPost E s (gPlay s.abs)) := by
  refine eStart (cc := cX0_play) (nL := 2) (L := [some (.ref s.a), none]) hl (by decide) rfl (List.forall_mem_cons.mpr ⟨rfl, (fun _ h => absurd h List.not_mem_nil)⟩) (Nat.le_of_ble_eq_true rfl) ?_
  intro x rs C
  show eZ x E (eQ x E (sPost E s (gPlay s.abs)) rs) [eSys E s, rs] 0 [some (.ref s.a), none] [] 0 0
  generalize hQ_ : eQ x E (sPost E s (gPlay s.abs)) rs = Q_
  have hs0 := hs
  obtain ⟨hs1, hs2, hs3, hs4, hs5, hs6⟩ := hs
  obtain ⟨ht1, ht2, ht3, ht4, ht5, ht6⟩ := hs6
  refine z_cut 0 (bs := [eO s.a 0 [.ref s.m.a, .ref s.dq, .ref s.sb], eMac E s.m, eAD E s.dq s.da s.dh (hA s.hs), eMacs E s.hs, eSB E s.sb s.sv s.sN s.ml s.tx.length s.tf, eSto s.S]) rfl eSys_cut rfl ?_
  show eZ x E _ [eO s.a 0 [.ref s.m.a, .ref s.dq, .ref s.sb], eMac E s.m, eAD E s.dq s.da s.dh (hA s.hs), eMacs E s.hs, eSB E s.sb s.sv s.sN s.ml s.tx.length s.tf, eSto s.S, rs] 0 [some (.ref s.a), none] [] 0 0
  refine z_new (fs := [.null, .null, .int 0, .int 0, .int 0, .int 0, .int 0, .null]) eK11 C dX0_play_0 rfl q1532 q1533 q91 rfl (by (try dsimp only); omega) (by (try dsimp only); omega) (fun o1 => ?_)
  show eZ x E _ [eO s.a 0 [.ref s.m.a, .ref s.dq, .ref s.sb], eMac E s.m, eAD E s.dq s.da s.dh (hA s.hs), eMacs E s.hs, eSB E s.sb s.sv s.sN s.ml s.tx.length s.tf, eSto s.S, rs, eO o1 11 [.null, .null, .int 0, .int 0, .int 0, .int 0, .int 0, .null]] 3 [some (.ref s.a), none] [.ref o1] 1 8
  refine z_dup C dX0_play_3 rfl ?_
  refine z_aload_n C dX0_play_4 rfl rfl ?_
  refine z_callIN (As := [.ref s.a]) (rest := [.ref o1]) (Δ := [eAD E s.dq s.da s.dh (hA s.hs), eMacs E s.hs, eSB E s.sb s.sv s.sN s.ml s.tx.length s.tf, rs]) [7, 0, 1, 5] [2, 3, 4, 6] 1 (m_Rd_init hl E o1 s.a s.dq s.sb s.m s.S hs1 hs2) C dX0_play_5 rfl rfl rfl q1534 q1535 q91 q1536 rfl (by decide +kernel) rfl (ePm 8 rfl (by decide +kernel)) rfl rfl ⟨Nat.le_of_ble_eq_true rfl, Nat.le_of_ble_eq_true rfl⟩ (Nat.le_trans (eSm rfl eS0) (Nat.le_of_ble_eq_true rfl)) ⟨by first | omega | (dsimp only; omega), by first | omega | (dsimp only; omega)⟩ (fun v_ Γ_ hp_ => ?_)
  obtain ⟨rfl, c2, na, rfl, hab, hS2⟩ := hp_
  show eZ x E _ [eO o1 11 [.ref c2.a, .ref na, .int 0, .int 0, .int 0, .int 0, .int 0, .ref s.a], eIA E na 3 (fun _ => 0), eMac E c2, eO s.a 0 [.ref s.m.a, .ref s.dq, .ref s.sb], eMac E s.m, eSto s.S, eAD E s.dq s.da s.dh (hA s.hs), eMacs E s.hs, eSB E s.sb s.sv s.sN s.ml s.tx.length s.tf, rs] 8 [some (.ref s.a), none] [.ref o1] 104 480
  have hok2 : gOk c2.abs := by rw [hab]; exact hs1
  refine z_astore_n (L2 := [some (.ref s.a), some (.ref o1)]) C dX0_play_8 rfl (Nat.le_of_ble_eq_true rfl) rfl ?_
  refine z_aload_n C dX0_play_9 rfl rfl ?_
  refine z_callV (r := (RX12, TX12, 8)) (As := []) (rest := []) (Δ := [eMac E s.m, eAD E s.dq s.da s.dh (hA s.hs), eMacs E s.hs, rs]) [0, 1, 2, 3, 8, 5] [4, 6, 7, 9] 0 (m_isWell hl E o1 na s.a s.m.a s.dq s.sb s.sv s.sN s.ml s.tx s.tf ht3 ht2 ht6 ht5 c2 s.S hok2 hS2 (fun _ => 0)) C dX0_play_10 rfl rfl (eIn (i := 0) rfl List.mem_cons_self) rfl rfl q1570 q1571 q1572 q91 q1573 (by decide +kernel) rfl (ePm 10 rfl (by decide +kernel)) rfl rfl ⟨Nat.le_of_ble_eq_true rfl, Nat.le_of_ble_eq_true rfl⟩ (Nat.le_trans eS0 (Nat.le_of_ble_eq_true rfl)) ⟨by first | omega | (dsimp only; omega), by first | omega | (dsimp only; omega)⟩ (fun v_ Γ_ hp_ => ?_)
  obtain ⟨rfl, f3, c3, S3, rfl, hab3, hS3, hSS3, hca3⟩ := hp_
  rw [hab] at hab3 ⊢
  show eZ x E _ [eO o1 11 [.ref c3.a, .ref na, .int (nI (gWl s.tx s.m.abs).2.2.2.1), .int ((gWl s.tx s.m.abs).1), .int ((gWl s.tx s.m.abs).2.1), .int ((gWl s.tx s.m.abs).2.2.1), .int ((gWl s.tx s.m.abs).2.2.2.2.1), .ref s.a], eIA E na 3 f3, eMac E c3, eO s.a 0 [.ref s.m.a, .ref s.dq, .ref s.sb], eSB E s.sb s.sv s.sN s.ml s.tx.length s.tf, eSto S3, eMac E s.m, eAD E s.dq s.da s.dh (hA s.hs), eMacs E s.hs, rs] 13 [some (.ref s.a), some (.ref o1)] [.int (eB (decide ((gWl s.tx s.m.abs).2.1 = 0)))] (104 + (213 * s.tx.length)) (480 + (1104 * s.tx.length))
  refine z_if_eq_B 31 C dX0_play_13 (by decide) (fun h1 => ?_) (fun h1 => ?_)
  · refine z_ldc C dX0_play_31 rfl q1390 ?_
    refine z_pick (Γ' := [eO s.a 0 [.ref s.m.a, .ref s.dq, .ref s.sb], eMac E s.m, eAD E s.dq s.da s.dh (hA s.hs), eMacs E s.hs, eSB E s.sb s.sv s.sN s.ml s.tx.length s.tf, eSto S3, eO o1 11 [.ref c3.a, .ref na, .int (nI (gWl s.tx s.m.abs).2.2.2.1), .int ((gWl s.tx s.m.abs).1), .int ((gWl s.tx s.m.abs).2.1), .int ((gWl s.tx s.m.abs).2.2.1), .int ((gWl s.tx s.m.abs).2.2.2.2.1), .ref s.a], eIA E na 3 f3, eMac E c3, rs]) [3, 6, 7, 8, 4, 5, 0, 1, 2, 9] (ePm 10 rfl (by decide +kernel)) rfl ?_
    refine z_join 6 (b := eSys E (s.a, s.m, s.dq, s.da, s.dh, s.hs, s.sb, s.sv, s.sN, s.ml, s.tx, s.tf, S3)) (by rw [eSys_cut]; rfl) rfl ?_
    show eZ x E _ [eSys E (s.a, s.m, s.dq, s.da, s.dh, s.hs, s.sb, s.sv, s.sN, s.ml, s.tx, s.tf, S3), eO o1 11 [.ref c3.a, .ref na, .int (nI (gWl s.tx s.m.abs).2.2.2.1), .int ((gWl s.tx s.m.abs).1), .int ((gWl s.tx s.m.abs).2.1), .int ((gWl s.tx s.m.abs).2.2.1), .int ((gWl s.tx s.m.abs).2.2.2.2.1), .ref s.a], eIA E na 3 f3, eMac E c3, rs] 33 [some (.ref s.a), some (.ref o1)] [.int (-1000002)] (104 + (213 * s.tx.length)) (480 + (1104 * s.tx.length))
    have hP : gPlay s.abs = (-1000002, s.abs) := by rw [gPlay]; exact if_neg (of_decide_eq_false h1)
    refine z_pick (Γ' := [eO o1 11 [.ref c3.a, .ref na, .int (nI (gWl s.tx s.m.abs).2.2.2.1), .int ((gWl s.tx s.m.abs).1), .int ((gWl s.tx s.m.abs).2.1), .int ((gWl s.tx s.m.abs).2.2.1), .int ((gWl s.tx s.m.abs).2.2.2.2.1), .ref s.a], eIA E na 3 f3, eMac E c3, eSys E (s.a, s.m, s.dq, s.da, s.dh, s.hs, s.sb, s.sv, s.sN, s.ml, s.tx, s.tf, S3), rs]) [1, 2, 3, 0, 4] (ePm 5 rfl (by decide +kernel)) rfl ?_
    refine z_drop ?_
    refine z_drop ?_
    refine z_drop ?_
    show eZ x E _ [eSys E (s.a, s.m, s.dq, s.da, s.dh, s.hs, s.sb, s.sv, s.sN, s.ml, s.tx, s.tf, S3), rs] 33 [some (.ref s.a), some (.ref o1)] [.int (-1000002)] (104 + (213 * s.tx.length)) (480 + (1104 * s.tx.length))
    subst hQ_
    exact z_ret (Γ := [eSys E (s.a, s.m, s.dq, s.da, s.dh, s.hs, s.sb, s.sv, s.sN, s.ml, s.tx, s.tf, S3)]) C dX0_play_33 rfl rfl (by (try dsimp only); omega) (by (try dsimp only); omega) ⟨(s.a, s.m, s.dq, s.da, s.dh, s.hs, s.sb, s.sv, s.sN, s.ml, s.tx, s.tf, S3), by rw [hP], rfl, by rw [hP]; rfl, ⟨hs1, fun z hz => hSS3 _ (hs2 z hz), fun h hh => ⟨(hs3 h hh).1, fun z hz => hSS3 _ ((hs3 h hh).2 z hz)⟩, hs4, hs5, ⟨ht1, ht2, ht3, ht4, ht5, ht6⟩⟩, rfl⟩
  · have h1p := of_decide_eq_true h1
    refine z_aload_n C dX0_play_16 rfl rfl ?_
    refine z_aload_n C dX0_play_17 rfl rfl ?_
    refine z_getN eK11 0 0 C dX0_play_18 rfl rfl q1541 (eSame1 rfl) (by decide) rfl ?_
    refine z_aload_n C dX0_play_21 rfl rfl ?_
    refine z_getN eK11 0 6 C dX0_play_22 rfl rfl q1551 (eSame1 rfl) (by decide) rfl ?_
    refine z_callV (r := (RX0, TX0, 3)) (As := [.ref c3.a, .int ((gWl s.tx s.m.abs).2.2.2.2.1)]) (rest := []) (Δ := [eO o1 11 [.ref c3.a, .ref na, .int (nI (gWl s.tx s.m.abs).2.2.2.1), .int ((gWl s.tx s.m.abs).1), .int ((gWl s.tx s.m.abs).2.1), .int ((gWl s.tx s.m.abs).2.2.1), .int ((gWl s.tx s.m.abs).2.2.2.2.1), .ref s.a], eIA E na 3 f3, eSB E s.sb s.sv s.sN s.ml s.tx.length s.tf, eSto S3, rs]) [3, 6, 7, 8, 2] [0, 1, 4, 5, 9] 2 (m_changed hl E s.a s.dq s.da s.dh s.sb s.m c3 s.hs (gWl s.tx s.m.abs).2.2.2.2.1 hs4 hs5) C dX0_play_25 rfl rfl (eIn (i := 3) rfl List.mem_cons_self) rfl rfl q1270 q1272 qs18 q49 q1273 (by decide +kernel) rfl (ePm 10 rfl (by decide +kernel)) rfl rfl ⟨Nat.le_of_ble_eq_true rfl, Nat.le_of_ble_eq_true rfl⟩ (Nat.le_trans eS0 (Nat.le_of_ble_eq_true rfl)) ⟨by first | omega | (dsimp only; omega), by first | omega | (dsimp only; omega)⟩ (fun v_ Γ_ hp_ => ?_)
    obtain ⟨rfl, dh2, hdh2, rfl⟩ := hp_
    show eZ x E _ [eO s.a 0 [.ref c3.a, .ref s.dq, .ref s.sb], eAD E s.dq s.da dh2 (hA (gHist s.hs s.m)), eMacs E (gHist s.hs s.m), eMac E c3, eO o1 11 [.ref c3.a, .ref na, .int (nI (gWl s.tx s.m.abs).2.2.2.1), .int ((gWl s.tx s.m.abs).1), .int ((gWl s.tx s.m.abs).2.1), .int ((gWl s.tx s.m.abs).2.2.1), .int ((gWl s.tx s.m.abs).2.2.2.2.1), .ref s.a], eIA E na 3 f3, eSB E s.sb s.sv s.sN s.ml s.tx.length s.tf, eSto S3, rs] 28 [some (.ref s.a), some (.ref o1)] [.int ((gWl s.tx s.m.abs).2.2.2.2.1)] (104 + (213 * s.tx.length)) (480 + (1104 * s.tx.length))
    refine z_goto 33 C dX0_play_28 (by decide) ?_
    refine z_pick (Γ' := [eO s.a 0 [.ref c3.a, .ref s.dq, .ref s.sb], eMac E c3, eAD E s.dq s.da dh2 (hA (gHist s.hs s.m)), eMacs E (gHist s.hs s.m), eSB E s.sb s.sv s.sN s.ml s.tx.length s.tf, eSto S3, eO o1 11 [.ref c3.a, .ref na, .int (nI (gWl s.tx s.m.abs).2.2.2.1), .int ((gWl s.tx s.m.abs).1), .int ((gWl s.tx s.m.abs).2.1), .int ((gWl s.tx s.m.abs).2.2.1), .int ((gWl s.tx s.m.abs).2.2.2.2.1), .ref s.a], eIA E na 3 f3, rs]) [0, 3, 1, 2, 6, 7, 4, 5, 8] (ePm 9 rfl (by decide +kernel)) rfl ?_
    refine z_join 6 (b := eSys E (s.a, c3, s.dq, s.da, dh2, gHist s.hs s.m, s.sb, s.sv, s.sN, s.ml, s.tx, s.tf, S3)) (by rw [eSys_cut]; rfl) rfl ?_
    show eZ x E _ [eSys E (s.a, c3, s.dq, s.da, dh2, gHist s.hs s.m, s.sb, s.sv, s.sN, s.ml, s.tx, s.tf, S3), eO o1 11 [.ref c3.a, .ref na, .int (nI (gWl s.tx s.m.abs).2.2.2.1), .int ((gWl s.tx s.m.abs).1), .int ((gWl s.tx s.m.abs).2.1), .int ((gWl s.tx s.m.abs).2.2.1), .int ((gWl s.tx s.m.abs).2.2.2.2.1), .ref s.a], eIA E na 3 f3, rs] 33 [some (.ref s.a), some (.ref o1)] [.int ((gWl s.tx s.m.abs).2.2.2.2.1)] (104 + (213 * s.tx.length)) (480 + (1104 * s.tx.length))
    have hP : gPlay s.abs = ((gWl s.tx s.m.abs).2.2.2.2.1, ((gWl s.tx s.m.abs).2.2.2.2.2, gHist (s.hs.map Cm.abs) s.m.abs, s.tx)) := by rw [gPlay]; exact if_pos h1p
    refine z_pick (Γ' := [eO o1 11 [.ref c3.a, .ref na, .int (nI (gWl s.tx s.m.abs).2.2.2.1), .int ((gWl s.tx s.m.abs).1), .int ((gWl s.tx s.m.abs).2.1), .int ((gWl s.tx s.m.abs).2.2.1), .int ((gWl s.tx s.m.abs).2.2.2.2.1), .ref s.a], eIA E na 3 f3, eSys E (s.a, c3, s.dq, s.da, dh2, gHist s.hs s.m, s.sb, s.sv, s.sN, s.ml, s.tx, s.tf, S3), rs]) [1, 2, 0, 3] (ePm 4 rfl (by decide +kernel)) rfl ?_
    refine z_drop ?_
    refine z_drop ?_
    show eZ x E _ [eSys E (s.a, c3, s.dq, s.da, dh2, gHist s.hs s.m, s.sb, s.sv, s.sN, s.ml, s.tx, s.tf, S3), rs] 33 [some (.ref s.a), some (.ref o1)] [.int ((gWl s.tx s.m.abs).2.2.2.2.1)] (104 + (213 * s.tx.length)) (480 + (1104 * s.tx.length))
    subst hQ_
    exact z_ret (Γ := [eSys E (s.a, c3, s.dq, s.da, dh2, gHist s.hs s.m, s.sb, s.sv, s.sN, s.ml, s.tx, s.tf, S3)]) C dX0_play_33 rfl rfl (by (try dsimp only); omega) (by (try dsimp only); omega) ⟨(s.a, c3, s.dq, s.da, dh2, gHist s.hs s.m, s.sb, s.sv, s.sN, s.ml, s.tx, s.tf, S3), by rw [hP], rfl, by rw [hP]; show ((c3.abs, (gHist s.hs s.m).map Cm.abs, s.tx) : As) = _; rw [hab3, gHist_map], ⟨by show gOk c3.abs; rw [hab3]; exact gWell_ok _ _ _ hs1, hS3, fun h hh => by rcases gHist_mem hh with h9 | h9; exact ⟨(hs3 h h9).1, fun z hz => hSS3 _ ((hs3 h h9).2 z hz)⟩; subst h9; exact ⟨hs1, fun z hz => hSS3 _ (hs2 z hz)⟩, gHist_len _ _ hs4, hdh2, ⟨ht1, ht2, ht3, ht4, ht5, ht6⟩⟩, rfl⟩
