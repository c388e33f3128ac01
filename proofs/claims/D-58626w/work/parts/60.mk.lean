/-! ===== the model: ticks; ranges are kept ===== -/
set_option maxRecDepth 100000
theorem eBt_n {n lo hi : Nat} (h1 : lo ≤ n) (h2 : n ≤ hi) (h : hi < 1000000) : eBt (nI n) (nI lo) (nI hi) = true := decide_eq_true ⟨nI_le h1 (by omega), nI_le h2 (by omega)⟩
theorem gStL_wf {v : Lv} (h : gWfL v) : gWfL (gStL v) := by
  refine ⟨h.1, h.2.1, ?_⟩
  obtain ⟨n, hn, he⟩ := eBt_ex (hi := 9) (by decide) h.2.2
  show eBt (eMax 0 (v.st - 1)) 0 9 = true
  rw [he]
  have h9 : ∀ n, n < 10 → eBt (eMax 0 (nI n - 1)) 0 9 = true := by decide +kernel
  exact h9 n (by omega)
theorem gCr2_wf {c : Cr} (h : gWfC c) (b : Bool) : gWfC (gCr2 (gCr1 b c)) := by
  obtain ⟨n, hn, he⟩ := eBt_ex (hi := 5) (by decide) h.1
  obtain ⟨m, hm, he2⟩ := eBt_ex (hi := n) (by omega) (by rw [← he]; exact h.2)
  unfold gCr2
  split
  · exact ⟨show eBt 0 0 5 = true by decide, show eBt 0 0 0 = true by decide⟩
  · rename_i h6
    have h7 : ¬ nI (n + 1) = 6 := by rw [← nI_1, ← he]; exact h6
    have h8 : n ≠ 5 := fun h => h7 (by rw [h]; rfl)
    show eBt (c.eggs + 1) 0 5 = true ∧ eBt (c.cracked + eB b) 0 (c.eggs + 1) = true
    rw [he, he2, nI_1]
    refine ⟨eBt_n (lo := 0) (hi := 5) (by omega) (by omega) (by decide), ?_⟩
    cases b
    · rw [show nI m + eB false = nI m from Int32.add_zero _]; exact eBt_n (lo := 0) (by omega) (by omega) (by omega)
    · rw [show nI m + eB true = nI (m + 1) from nI_1 m]; exact eBt_n (lo := 0) (by omega) (by omega) (by omega)
theorem mem_set_ {α : Type} {xs : List α} {k : Nat} {y z : α} (h : z ∈ xs.set k y) : z ∈ xs ∨ z = y := List.mem_or_eq_of_mem_set h
/-- a lane's step keeps the ranges -/
theorem gStep_wf (st : Nat → Int32) (nu : Int32) (v : Lv) (gs : List Eg) (cs : List Cr) (bs : List Enr) (u : Mv) (hv : gWfL v) (hg : ∀ g ∈ gs, gEgOk g = true) (hc : ∀ c ∈ cs, gWfC c) (hS : gWfS st) (h6 : cs.length = 6) : gWfL (gStep st nu v gs cs bs u).2.1 ∧ (∀ g ∈ (gStep st nu v gs cs bs u).2.2.1, gEgOk g = true) ∧ ∀ c ∈ (gStep st nu v gs cs bs u).2.2.2.1, gWfC c := by
  cases gs with
  | nil => exact ⟨hv, hg, hc⟩
  | cons g t =>
    have ht : ∀ g ∈ t, gEgOk g = true := fun q hq => hg q (List.mem_cons_of_mem _ hq)
    rw [gStep]
    split
    · obtain ⟨K, hK, hGK⟩ := gGr_N st (gStL v) (gStE v g)
      obtain ⟨c, hcK⟩ : ∃ c, cs[K]? = some c := ⟨_, List.getElem?_eq_getElem (by omega)⟩
      refine ⟨gStL_wf hv, ht, fun q hq => ?_⟩
      rcases mem_set_ hq with h | h
      · exact hc q h
      · rw [h, hGK, gC_at hK hcK]; exact gCr2_wf (hc c (List.mem_of_getElem? hcK)) _
    · split
      · split
        · refine ⟨gStL_wf hv, fun q hq => ?_, hc⟩
          rcases List.mem_append.mp hq with h | h
          · exact ht q h
          · rw [List.mem_singleton.mp h]; exact gStE_ok (v := v) (hg g List.mem_cons_self)
        · exact ⟨gStL_wf hv, ht, hc⟩
      · exact ⟨⟨hv.1, hv.2.1, hS.2.2.1⟩, ht, hc⟩
theorem gLnA_ok {A : Am} {N : Nat} {v : Lv} {gs : List Eg} (hx : A.ls[N]? = some (v, gs)) (hok : gOk A) : gOk (gLnA A N (gStep A.st (nI N) v gs A.cs A.bs A.u)) := by
  obtain ⟨h1, h2, h3, h4, h5⟩ := hok
  have h8 : gs.length ≤ 8 := h2 _ (List.mem_of_getElem? hx)
  refine ⟨by show (A.ls.set N _).length = 4; rw [List.length_set]; exact h1, fun q hq => ?_, (gStep_cs _ _ _ _ _ _ _).trans h3, gStep_bs _ _ _ _ _ _ _ h4, h5⟩
  rcases mem_set_ hq with h | h
  · exact h2 q h
  · rw [h]; exact Nat.le_trans (gStep_gs _ _ _ _ _ _ _) h8
theorem gLnA_wf {A : Am} {N : Nat} {v : Lv} {gs : List Eg} (hx : A.ls[N]? = some (v, gs)) (hok : gOk A) (hwf : gWf A) : gWf (gLnA A N (gStep A.st (nI N) v gs A.cs A.bs A.u)) := by
  obtain ⟨h1, h2, h3, h4⟩ := hwf
  have hw := h1 _ (List.mem_of_getElem? hx)
  have h9 := gStep_wf A.st (nI N) v gs A.cs A.bs A.u hw.1 hw.2 h2 h3 hok.2.2.1
  refine ⟨fun q hq => ?_, h9.2.2, h3, trivial⟩
  rcases mem_set_ hq with h | h
  · exact h1 q h
  · rw [h]; exact ⟨h9.1, h9.2.1⟩
theorem Rep_tk {f : Nat → Int32} {A : Am} (hok : gOk A) (R : Rep f A) : Rep (upd f 296 (A.u.tk + 1)) (A.ls, A.cs, A.bs, A.st, gTkU A.u) := by
  obtain ⟨x, hx⟩ : ∃ x, A.ls[0]? = some x := ⟨_, List.getElem?_eq_getElem (by rw [hok.1]; decide)⟩
  have hz : rZ 0 x.2 A.cs A.bs := ⟨by decide, hok.2.1 x (List.mem_of_getElem? hx), Nat.le_of_eq hok.2.2.1, hok.2.2.2.1⟩
  refine rP_to R hok (by decide) (rP_t 0 _ (by decide) hz (rP_of R hx)) (set_same_ hx).symm rfl rfl rfl (fun j hj => ?_)
  rcases j11 hj with h9 | h9 | h9 | h9 | h9 | h9 | h9 | h9 | h9 | h9 | h9 <;> subst h9 <;> rfl
theorem gTick_4 (x0 x1 x2 x3 : Lv × List Eg) (cs : List Cr) (bs : List Enr) (st : Nat → Int32) (u : Mv) (s0 s1 s2 s3 : Gs) (h0 : s0 = gStep st (nI 0) x0.1 x0.2 cs bs u) (h1 : s1 = gStep st (nI 1) x1.1 x1.2 s0.2.2.2.1 s0.2.2.2.2.1 s0.2.2.2.2.2) (h2 : s2 = gStep st (nI 2) x2.1 x2.2 s1.2.2.2.1 s1.2.2.2.2.1 s1.2.2.2.2.2) (h3 : s3 = gStep st (nI 3) x3.1 x3.2 s2.2.2.2.1 s2.2.2.2.2.1 s2.2.2.2.2.2) :
    gTick ([x0, x1, x2, x3], cs, bs, st, u) = (0 + s0.1 + s1.1 + s2.1 + s3.1, [(s0.2.1, s0.2.2.1), (s1.2.1, s1.2.2.1), (s2.2.1, s2.2.2.1), (s3.2.1, s3.2.2.1)], s3.2.2.2.1, s3.2.2.2.2.1, st, gTkU s3.2.2.2.2.2) := by
  unfold gTick
  simp only [gTk]
  rw [← h0, ← h1, ← h2, ← h3]
  rfl
theorem gTick_wf {A : Am} (hok : gOk A) (hwf : gWf A) : gWf (gTick A).2 := by
  obtain ⟨ls, cs, bs, st, u⟩ := A
  obtain ⟨x0, x1, x2, x3, rfl⟩ : ∃ x0 x1 x2 x3, ls = [x0, x1, x2, x3] := by
    have h := hok.1
    match ls, h with
    | [a, b, c, d], _ => exact ⟨a, b, c, d, rfl⟩
  have k1 := gLnA_ok (A := ([x0, x1, x2, x3], cs, bs, st, u)) (N := 0) (v := x0.1) (gs := x0.2) rfl hok
  have w1 := gLnA_wf (A := ([x0, x1, x2, x3], cs, bs, st, u)) (N := 0) (v := x0.1) (gs := x0.2) rfl hok hwf
  have k2 := gLnA_ok (N := 1) (v := x1.1) (gs := x1.2) rfl k1
  have w2 := gLnA_wf (N := 1) (v := x1.1) (gs := x1.2) rfl k1 w1
  have k3 := gLnA_ok (N := 2) (v := x2.1) (gs := x2.2) rfl k2
  have w3 := gLnA_wf (N := 2) (v := x2.1) (gs := x2.2) rfl k2 w2
  have w4 := gLnA_wf (N := 3) (v := x3.1) (gs := x3.2) rfl k3 w3
  rw [gTick_4 x0 x1 x2 x3 cs bs st u _ _ _ _ rfl rfl rfl rfl]
  exact w4
theorem gTicks_wf (d : Nat) : ∀ p : Int32 × Am, gOk p.2 → gWf p.2 → gWf (gTicks d p).2 := by
  induction d with
  | zero => intro p _ h; exact h
  | succ d ih => intro p h1 h2; rw [gTicks_succ]; exact ih _ (gTick_ok h1) (gTick_wf h1 h2)

set_option maxHeartbeats 4000000 in
theorem m_Mtick {l : Launch} (hl : l.stackTraces = false) (E : eEn) (a : Nat) (o : Mo) (f : Nat → Int32) (A : Am) (hok : gOk A) (hwf : gWf A) (R : Rep f A) : eMet l E yX4_tick (ws_ yX4_tick cX4_tick 3 (some .int)) ({ frames := 5, cells := 0, slots := 0, locals := 113 }) [.ref a] [eO a 4 [.ref o.sa, .ref o.pa, .ref o.ha, .ref o.xa, .int o.pn, .int o.ru, .ref o.ta, .int o.ty, .int o.sp, .int o.fr, .int o.re, .int o.ca, .int o.os, .int o.od, .ref o.na], eIA E o.sa 311 f] (fun w Γ => w = some (.int (gTick A).1) ∧ ∃ f2, Γ = [eMO a o, eIA E o.sa 311 f2] ∧ Rep f2 (gTick A).2) := by
  refine eStart (cc := cX4_tick) (nL := 3) (L := [some (.ref a), none, none]) hl (by decide) rfl (List.forall_mem_cons.mpr ⟨rfl, (fun _ h => absurd h List.not_mem_nil)⟩) (Nat.le_of_ble_eq_true rfl) ?_
  intro x rs C
  show eZ x E (eQ x E (fun w Γ => w = some (.int (gTick A).1) ∧ ∃ f2, Γ = [eMO a o, eIA E o.sa 311 f2] ∧ Rep f2 (gTick A).2) rs) [eO a 4 [.ref o.sa, .ref o.pa, .ref o.ha, .ref o.xa, .int o.pn, .int o.ru, .ref o.ta, .int o.ty, .int o.sp, .int o.fr, .int o.re, .int o.ca, .int o.os, .int o.od, .ref o.na], eIA E o.sa 311 f, rs] 0 [some (.ref a), none, none] [] 0 0
  generalize hQ_ : eQ x E (fun w Γ => w = some (.int (gTick A).1) ∧ ∃ f2, Γ = [eMO a o, eIA E o.sa 311 f2] ∧ Rep f2 (gTick A).2) rs = Q_
  obtain ⟨ls, cs, bs, st, u⟩ := A
  obtain ⟨x0, x1, x2, x3, rfl⟩ : ∃ x0 x1 x2 x3, ls = [x0, x1, x2, x3] := by
    have h := hok.1
    match ls, h with
    | [a, b, c, d], _ => exact ⟨a, b, c, d, rfl⟩
  refine z_iconst (v := 0) C dX4_tick_0 (by decide) ?_
  refine z_istore_n (L2 := [some (.ref a), some (.int 0), none]) C dX4_tick_1 rfl (Nat.le_of_ble_eq_true rfl) rfl ?_
  refine z_iconst (v := 0) C dX4_tick_2 (by decide) ?_
  refine z_istore_n (L2 := [some (.ref a), some (.int 0), some (.int 0)]) C dX4_tick_3 rfl (Nat.le_of_ble_eq_true rfl) rfl ?_
  show eZ x E _ [eO a 4 [.ref o.sa, .ref o.pa, .ref o.ha, .ref o.xa, .int o.pn, .int o.ru, .ref o.ta, .int o.ty, .int o.sp, .int o.fr, .int o.re, .int o.ca, .int o.os, .int o.od, .ref o.na], eIA E o.sa 311 f, rs] 4 [some (.ref a), some (.int 0), some (.int 0)] [] 0 0
  refine z_iload_n C dX4_tick_4 rfl rfl ?_
  refine z_iconst (v := 4) C dX4_tick_5 (by decide) ?_
  refine z_icmp_ge 23 C dX4_tick_6 (by decide) (fun h_ => absurd h_ (by decide)) (fun h_ => ?_)
  refine z_iload_n C dX4_tick_9 rfl rfl ?_
  refine z_aload_n C dX4_tick_10 rfl rfl ?_
  refine z_iload_n C dX4_tick_11 rfl rfl ?_
  obtain ⟨s0, hs0⟩ : ∃ q_ : Gs, q_ = gStep st (nI 0) x0.1 x0.2 cs bs u := ⟨_, rfl⟩
  refine z_callV (r := (RX4, TX4, 15)) (As := [.int (nI 0)]) (rest := [.int 0]) (Δ := [rs]) [0, 1] [2] 1 (m_Mgrades hl E a o f ([x0, x1, x2, x3], cs, bs, st, u) 0 (by decide) x0.1 x0.2 rfl hok hwf R) C dX4_tick_12 rfl rfl (eIn (i := 0) rfl List.mem_cons_self) rfl rfl q1769 q1771 qs31 q67 q1772 (by decide +kernel) rfl (ePm 3 rfl (by decide +kernel)) rfl rfl ⟨Nat.le_of_ble_eq_true rfl, Nat.le_of_ble_eq_true rfl⟩ (Nat.le_trans (eSm rfl eS0) (Nat.le_of_ble_eq_true rfl)) ⟨Nat.le_of_ble_eq_true rfl, Nat.le_of_ble_eq_true rfl⟩ (fun v_ Γ_ hp_ => ?_)
  obtain ⟨rfl, f0, rfl, R0⟩ := hp_
  show eZ x E _ [eO a 4 [.ref o.sa, .ref o.pa, .ref o.ha, .ref o.xa, .int o.pn, .int o.ru, .ref o.ta, .int o.ty, .int o.sp, .int o.fr, .int o.re, .int o.ca, .int o.os, .int o.od, .ref o.na], eIA E o.sa 311 f0, rs] 15 [some (.ref a), some (.int 0), some (.int 0)] [.int ((gStep st (nI 0) x0.1 x0.2 cs bs u).1), .int 0] 0 0
  have k0 := gLnA_ok (A := ([x0, x1, x2, x3], cs, bs, st, u)) (N := 0) (v := x0.1) (gs := x0.2) rfl hok
  have w0 := gLnA_wf (A := ([x0, x1, x2, x3], cs, bs, st, u)) (N := 0) (v := x0.1) (gs := x0.2) rfl hok hwf
  rw [← hs0]
  show eZ x E _ [eO a 4 [.ref o.sa, .ref o.pa, .ref o.ha, .ref o.xa, .int o.pn, .int o.ru, .ref o.ta, .int o.ty, .int o.sp, .int o.fr, .int o.re, .int o.ca, .int o.os, .int o.od, .ref o.na], eIA E o.sa 311 f0, rs] 15 [some (.ref a), some (.int 0), some (.int 0)] [.int s0.1, .int 0] 0 0
  have R0_ : Rep f0 ([(s0.2.1, s0.2.2.1), x1, x2, x3], s0.2.2.2.1, s0.2.2.2.2.1, st, s0.2.2.2.2.2) := by rw [hs0]; exact R0
  have k0_ : gOk ([(s0.2.1, s0.2.2.1), x1, x2, x3], s0.2.2.2.1, s0.2.2.2.2.1, st, s0.2.2.2.2.2) := by rw [hs0]; exact k0
  have w0_ : gWf ([(s0.2.1, s0.2.2.1), x1, x2, x3], s0.2.2.2.1, s0.2.2.2.2.1, st, s0.2.2.2.2.2) := by rw [hs0]; exact w0
  refine z_iadd (w := 0 + s0.1) C dX4_tick_15 rfl ?_
  refine z_istore_n (L2 := [some (.ref a), some (.int (0 + s0.1)), some (.int 0)]) C dX4_tick_16 rfl (Nat.le_of_ble_eq_true rfl) rfl ?_
  refine z_iinc (v := nI 1) (L2 := [some (.ref a), some (.int (0 + s0.1)), some (.int (nI 1))]) C dX4_tick_17 rfl rfl rfl ?_
  refine z_goto 4 C dX4_tick_20 (by decide) ?_
  show eZ x E _ [eO a 4 [.ref o.sa, .ref o.pa, .ref o.ha, .ref o.xa, .int o.pn, .int o.ru, .ref o.ta, .int o.ty, .int o.sp, .int o.fr, .int o.re, .int o.ca, .int o.os, .int o.od, .ref o.na], eIA E o.sa 311 f0, rs] 4 [some (.ref a), some (.int (0 + s0.1)), some (.int (nI 1))] [] 0 0
  refine z_iload_n C dX4_tick_4 rfl rfl ?_
  refine z_iconst (v := 4) C dX4_tick_5 (by decide) ?_
  refine z_icmp_ge 23 C dX4_tick_6 (by decide) (fun h_ => absurd h_ (by decide)) (fun h_ => ?_)
  refine z_iload_n C dX4_tick_9 rfl rfl ?_
  refine z_aload_n C dX4_tick_10 rfl rfl ?_
  refine z_iload_n C dX4_tick_11 rfl rfl ?_
  obtain ⟨s1, hs1⟩ : ∃ q_ : Gs, q_ = gStep st (nI 1) x1.1 x1.2 s0.2.2.2.1 s0.2.2.2.2.1 s0.2.2.2.2.2 := ⟨_, rfl⟩
  refine z_callV (r := (RX4, TX4, 15)) (As := [.int (nI 1)]) (rest := [.int (0 + s0.1)]) (Δ := [rs]) [0, 1] [2] 1 (m_Mgrades hl E a o f0 ([(s0.2.1, s0.2.2.1), x1, x2, x3], s0.2.2.2.1, s0.2.2.2.2.1, st, s0.2.2.2.2.2) 1 (by decide) x1.1 x1.2 rfl k0_ w0_ R0_) C dX4_tick_12 rfl rfl (eIn (i := 0) rfl List.mem_cons_self) rfl rfl q1769 q1771 qs31 q67 q1772 (by decide +kernel) rfl (ePm 3 rfl (by decide +kernel)) rfl rfl ⟨Nat.le_of_ble_eq_true rfl, Nat.le_of_ble_eq_true rfl⟩ (Nat.le_trans (eSm rfl eS0) (Nat.le_of_ble_eq_true rfl)) ⟨Nat.le_of_ble_eq_true rfl, Nat.le_of_ble_eq_true rfl⟩ (fun v_ Γ_ hp_ => ?_)
  obtain ⟨rfl, f1, rfl, R1⟩ := hp_
  show eZ x E _ [eO a 4 [.ref o.sa, .ref o.pa, .ref o.ha, .ref o.xa, .int o.pn, .int o.ru, .ref o.ta, .int o.ty, .int o.sp, .int o.fr, .int o.re, .int o.ca, .int o.os, .int o.od, .ref o.na], eIA E o.sa 311 f1, rs] 15 [some (.ref a), some (.int (0 + s0.1)), some (.int (nI 1))] [.int ((gStep st (nI 1) x1.1 x1.2 s0.2.2.2.1 s0.2.2.2.2.1 s0.2.2.2.2.2).1), .int (0 + s0.1)] 0 0
  have k1 := gLnA_ok (A := ([(s0.2.1, s0.2.2.1), x1, x2, x3], s0.2.2.2.1, s0.2.2.2.2.1, st, s0.2.2.2.2.2)) (N := 1) (v := x1.1) (gs := x1.2) rfl k0_
  have w1 := gLnA_wf (A := ([(s0.2.1, s0.2.2.1), x1, x2, x3], s0.2.2.2.1, s0.2.2.2.2.1, st, s0.2.2.2.2.2)) (N := 1) (v := x1.1) (gs := x1.2) rfl k0_ w0_
  rw [← hs1]
  show eZ x E _ [eO a 4 [.ref o.sa, .ref o.pa, .ref o.ha, .ref o.xa, .int o.pn, .int o.ru, .ref o.ta, .int o.ty, .int o.sp, .int o.fr, .int o.re, .int o.ca, .int o.os, .int o.od, .ref o.na], eIA E o.sa 311 f1, rs] 15 [some (.ref a), some (.int (0 + s0.1)), some (.int (nI 1))] [.int s1.1, .int (0 + s0.1)] 0 0
  have R1_ : Rep f1 ([(s0.2.1, s0.2.2.1), (s1.2.1, s1.2.2.1), x2, x3], s1.2.2.2.1, s1.2.2.2.2.1, st, s1.2.2.2.2.2) := by rw [hs1]; exact R1
  have k1_ : gOk ([(s0.2.1, s0.2.2.1), (s1.2.1, s1.2.2.1), x2, x3], s1.2.2.2.1, s1.2.2.2.2.1, st, s1.2.2.2.2.2) := by rw [hs1]; exact k1
  have w1_ : gWf ([(s0.2.1, s0.2.2.1), (s1.2.1, s1.2.2.1), x2, x3], s1.2.2.2.1, s1.2.2.2.2.1, st, s1.2.2.2.2.2) := by rw [hs1]; exact w1
  refine z_iadd (w := (0 + s0.1) + s1.1) C dX4_tick_15 rfl ?_
  refine z_istore_n (L2 := [some (.ref a), some (.int ((0 + s0.1) + s1.1)), some (.int (nI 1))]) C dX4_tick_16 rfl (Nat.le_of_ble_eq_true rfl) rfl ?_
  refine z_iinc (v := nI 2) (L2 := [some (.ref a), some (.int ((0 + s0.1) + s1.1)), some (.int (nI 2))]) C dX4_tick_17 rfl rfl rfl ?_
  refine z_goto 4 C dX4_tick_20 (by decide) ?_
  show eZ x E _ [eO a 4 [.ref o.sa, .ref o.pa, .ref o.ha, .ref o.xa, .int o.pn, .int o.ru, .ref o.ta, .int o.ty, .int o.sp, .int o.fr, .int o.re, .int o.ca, .int o.os, .int o.od, .ref o.na], eIA E o.sa 311 f1, rs] 4 [some (.ref a), some (.int (0 + s0.1 + s1.1)), some (.int (nI 2))] [] 0 0
  refine z_iload_n C dX4_tick_4 rfl rfl ?_
  refine z_iconst (v := 4) C dX4_tick_5 (by decide) ?_
  refine z_icmp_ge 23 C dX4_tick_6 (by decide) (fun h_ => absurd h_ (by decide)) (fun h_ => ?_)
  refine z_iload_n C dX4_tick_9 rfl rfl ?_
  refine z_aload_n C dX4_tick_10 rfl rfl ?_
  refine z_iload_n C dX4_tick_11 rfl rfl ?_
  obtain ⟨s2, hs2⟩ : ∃ q_ : Gs, q_ = gStep st (nI 2) x2.1 x2.2 s1.2.2.2.1 s1.2.2.2.2.1 s1.2.2.2.2.2 := ⟨_, rfl⟩
  refine z_callV (r := (RX4, TX4, 15)) (As := [.int (nI 2)]) (rest := [.int (0 + s0.1 + s1.1)]) (Δ := [rs]) [0, 1] [2] 1 (m_Mgrades hl E a o f1 ([(s0.2.1, s0.2.2.1), (s1.2.1, s1.2.2.1), x2, x3], s1.2.2.2.1, s1.2.2.2.2.1, st, s1.2.2.2.2.2) 2 (by decide) x2.1 x2.2 rfl k1_ w1_ R1_) C dX4_tick_12 rfl rfl (eIn (i := 0) rfl List.mem_cons_self) rfl rfl q1769 q1771 qs31 q67 q1772 (by decide +kernel) rfl (ePm 3 rfl (by decide +kernel)) rfl rfl ⟨Nat.le_of_ble_eq_true rfl, Nat.le_of_ble_eq_true rfl⟩ (Nat.le_trans (eSm rfl eS0) (Nat.le_of_ble_eq_true rfl)) ⟨Nat.le_of_ble_eq_true rfl, Nat.le_of_ble_eq_true rfl⟩ (fun v_ Γ_ hp_ => ?_)
  obtain ⟨rfl, f2, rfl, R2⟩ := hp_
  show eZ x E _ [eO a 4 [.ref o.sa, .ref o.pa, .ref o.ha, .ref o.xa, .int o.pn, .int o.ru, .ref o.ta, .int o.ty, .int o.sp, .int o.fr, .int o.re, .int o.ca, .int o.os, .int o.od, .ref o.na], eIA E o.sa 311 f2, rs] 15 [some (.ref a), some (.int (0 + s0.1 + s1.1)), some (.int (nI 2))] [.int ((gStep st (nI 2) x2.1 x2.2 s1.2.2.2.1 s1.2.2.2.2.1 s1.2.2.2.2.2).1), .int (0 + s0.1 + s1.1)] 0 0
  have k2 := gLnA_ok (A := ([(s0.2.1, s0.2.2.1), (s1.2.1, s1.2.2.1), x2, x3], s1.2.2.2.1, s1.2.2.2.2.1, st, s1.2.2.2.2.2)) (N := 2) (v := x2.1) (gs := x2.2) rfl k1_
  have w2 := gLnA_wf (A := ([(s0.2.1, s0.2.2.1), (s1.2.1, s1.2.2.1), x2, x3], s1.2.2.2.1, s1.2.2.2.2.1, st, s1.2.2.2.2.2)) (N := 2) (v := x2.1) (gs := x2.2) rfl k1_ w1_
  rw [← hs2]
  show eZ x E _ [eO a 4 [.ref o.sa, .ref o.pa, .ref o.ha, .ref o.xa, .int o.pn, .int o.ru, .ref o.ta, .int o.ty, .int o.sp, .int o.fr, .int o.re, .int o.ca, .int o.os, .int o.od, .ref o.na], eIA E o.sa 311 f2, rs] 15 [some (.ref a), some (.int (0 + s0.1 + s1.1)), some (.int (nI 2))] [.int s2.1, .int (0 + s0.1 + s1.1)] 0 0
  have R2_ : Rep f2 ([(s0.2.1, s0.2.2.1), (s1.2.1, s1.2.2.1), (s2.2.1, s2.2.2.1), x3], s2.2.2.2.1, s2.2.2.2.2.1, st, s2.2.2.2.2.2) := by rw [hs2]; exact R2
  have k2_ : gOk ([(s0.2.1, s0.2.2.1), (s1.2.1, s1.2.2.1), (s2.2.1, s2.2.2.1), x3], s2.2.2.2.1, s2.2.2.2.2.1, st, s2.2.2.2.2.2) := by rw [hs2]; exact k2
  have w2_ : gWf ([(s0.2.1, s0.2.2.1), (s1.2.1, s1.2.2.1), (s2.2.1, s2.2.2.1), x3], s2.2.2.2.1, s2.2.2.2.2.1, st, s2.2.2.2.2.2) := by rw [hs2]; exact w2
  refine z_iadd (w := (0 + s0.1 + s1.1) + s2.1) C dX4_tick_15 rfl ?_
  refine z_istore_n (L2 := [some (.ref a), some (.int ((0 + s0.1 + s1.1) + s2.1)), some (.int (nI 2))]) C dX4_tick_16 rfl (Nat.le_of_ble_eq_true rfl) rfl ?_
  refine z_iinc (v := nI 3) (L2 := [some (.ref a), some (.int ((0 + s0.1 + s1.1) + s2.1)), some (.int (nI 3))]) C dX4_tick_17 rfl rfl rfl ?_
  refine z_goto 4 C dX4_tick_20 (by decide) ?_
  show eZ x E _ [eO a 4 [.ref o.sa, .ref o.pa, .ref o.ha, .ref o.xa, .int o.pn, .int o.ru, .ref o.ta, .int o.ty, .int o.sp, .int o.fr, .int o.re, .int o.ca, .int o.os, .int o.od, .ref o.na], eIA E o.sa 311 f2, rs] 4 [some (.ref a), some (.int (0 + s0.1 + s1.1 + s2.1)), some (.int (nI 3))] [] 0 0
  refine z_iload_n C dX4_tick_4 rfl rfl ?_
  refine z_iconst (v := 4) C dX4_tick_5 (by decide) ?_
  refine z_icmp_ge 23 C dX4_tick_6 (by decide) (fun h_ => absurd h_ (by decide)) (fun h_ => ?_)
  refine z_iload_n C dX4_tick_9 rfl rfl ?_
  refine z_aload_n C dX4_tick_10 rfl rfl ?_
  refine z_iload_n C dX4_tick_11 rfl rfl ?_
  obtain ⟨s3, hs3⟩ : ∃ q_ : Gs, q_ = gStep st (nI 3) x3.1 x3.2 s2.2.2.2.1 s2.2.2.2.2.1 s2.2.2.2.2.2 := ⟨_, rfl⟩
  refine z_callV (r := (RX4, TX4, 15)) (As := [.int (nI 3)]) (rest := [.int (0 + s0.1 + s1.1 + s2.1)]) (Δ := [rs]) [0, 1] [2] 1 (m_Mgrades hl E a o f2 ([(s0.2.1, s0.2.2.1), (s1.2.1, s1.2.2.1), (s2.2.1, s2.2.2.1), x3], s2.2.2.2.1, s2.2.2.2.2.1, st, s2.2.2.2.2.2) 3 (by decide) x3.1 x3.2 rfl k2_ w2_ R2_) C dX4_tick_12 rfl rfl (eIn (i := 0) rfl List.mem_cons_self) rfl rfl q1769 q1771 qs31 q67 q1772 (by decide +kernel) rfl (ePm 3 rfl (by decide +kernel)) rfl rfl ⟨Nat.le_of_ble_eq_true rfl, Nat.le_of_ble_eq_true rfl⟩ (Nat.le_trans (eSm rfl eS0) (Nat.le_of_ble_eq_true rfl)) ⟨Nat.le_of_ble_eq_true rfl, Nat.le_of_ble_eq_true rfl⟩ (fun v_ Γ_ hp_ => ?_)
  obtain ⟨rfl, f3, rfl, R3⟩ := hp_
  show eZ x E _ [eO a 4 [.ref o.sa, .ref o.pa, .ref o.ha, .ref o.xa, .int o.pn, .int o.ru, .ref o.ta, .int o.ty, .int o.sp, .int o.fr, .int o.re, .int o.ca, .int o.os, .int o.od, .ref o.na], eIA E o.sa 311 f3, rs] 15 [some (.ref a), some (.int (0 + s0.1 + s1.1 + s2.1)), some (.int (nI 3))] [.int ((gStep st (nI 3) x3.1 x3.2 s2.2.2.2.1 s2.2.2.2.2.1 s2.2.2.2.2.2).1), .int (0 + s0.1 + s1.1 + s2.1)] 0 0
  have k3 := gLnA_ok (A := ([(s0.2.1, s0.2.2.1), (s1.2.1, s1.2.2.1), (s2.2.1, s2.2.2.1), x3], s2.2.2.2.1, s2.2.2.2.2.1, st, s2.2.2.2.2.2)) (N := 3) (v := x3.1) (gs := x3.2) rfl k2_
  have w3 := gLnA_wf (A := ([(s0.2.1, s0.2.2.1), (s1.2.1, s1.2.2.1), (s2.2.1, s2.2.2.1), x3], s2.2.2.2.1, s2.2.2.2.2.1, st, s2.2.2.2.2.2)) (N := 3) (v := x3.1) (gs := x3.2) rfl k2_ w2_
  rw [← hs3]
  show eZ x E _ [eO a 4 [.ref o.sa, .ref o.pa, .ref o.ha, .ref o.xa, .int o.pn, .int o.ru, .ref o.ta, .int o.ty, .int o.sp, .int o.fr, .int o.re, .int o.ca, .int o.os, .int o.od, .ref o.na], eIA E o.sa 311 f3, rs] 15 [some (.ref a), some (.int (0 + s0.1 + s1.1 + s2.1)), some (.int (nI 3))] [.int s3.1, .int (0 + s0.1 + s1.1 + s2.1)] 0 0
  have R3_ : Rep f3 ([(s0.2.1, s0.2.2.1), (s1.2.1, s1.2.2.1), (s2.2.1, s2.2.2.1), (s3.2.1, s3.2.2.1)], s3.2.2.2.1, s3.2.2.2.2.1, st, s3.2.2.2.2.2) := by rw [hs3]; exact R3
  have k3_ : gOk ([(s0.2.1, s0.2.2.1), (s1.2.1, s1.2.2.1), (s2.2.1, s2.2.2.1), (s3.2.1, s3.2.2.1)], s3.2.2.2.1, s3.2.2.2.2.1, st, s3.2.2.2.2.2) := by rw [hs3]; exact k3
  have w3_ : gWf ([(s0.2.1, s0.2.2.1), (s1.2.1, s1.2.2.1), (s2.2.1, s2.2.2.1), (s3.2.1, s3.2.2.1)], s3.2.2.2.1, s3.2.2.2.2.1, st, s3.2.2.2.2.2) := by rw [hs3]; exact w3
  refine z_iadd (w := (0 + s0.1 + s1.1 + s2.1) + s3.1) C dX4_tick_15 rfl ?_
  refine z_istore_n (L2 := [some (.ref a), some (.int ((0 + s0.1 + s1.1 + s2.1) + s3.1)), some (.int (nI 3))]) C dX4_tick_16 rfl (Nat.le_of_ble_eq_true rfl) rfl ?_
  refine z_iinc (v := nI 4) (L2 := [some (.ref a), some (.int ((0 + s0.1 + s1.1 + s2.1) + s3.1)), some (.int (nI 4))]) C dX4_tick_17 rfl rfl rfl ?_
  refine z_goto 4 C dX4_tick_20 (by decide) ?_
  refine z_iload_n C dX4_tick_4 rfl rfl ?_
  refine z_iconst (v := 4) C dX4_tick_5 (by decide) ?_
  refine z_icmp_ge 23 C dX4_tick_6 (by decide) (fun h_ => ?_) (fun h_ => absurd h_ (absurd (by decide) h_))
  refine z_aload_n C dX4_tick_23 rfl rfl ?_
  refine z_get eK4 0 0 C dX4_tick_24 rfl rfl q1671 (eSame1 rfl) (by decide) rfl ?_
  refine z_sipush (v := 296) C dX4_tick_27 (by decide) ?_
  refine z_dup2 C dX4_tick_30 rfl rfl ?_
  refine z_iald (m := 296) (v := s3.2.2.2.2.2.tk) 1 C dX4_tick_31 rfl rfl (by omega) (by decide) (R3_.2.2.2.1 0 (by decide)) ?_
  refine z_iconst (v := 1) C dX4_tick_32 (by decide) ?_
  refine z_iadd (w := s3.2.2.2.2.2.tk + 1) C dX4_tick_33 rfl ?_
  refine z_iast (m := 296) (Γ2 := [eO a 4 [.ref o.sa, .ref o.pa, .ref o.ha, .ref o.xa, .int o.pn, .int o.ru, .ref o.ta, .int o.ty, .int o.sp, .int o.fr, .int o.re, .int o.ca, .int o.os, .int o.od, .ref o.na], eIA E o.sa 311 (upd f3 296 (s3.2.2.2.2.2.tk + 1)), rs]) 1 C dX4_tick_34 rfl rfl (by omega) (by decide) rfl ?_
  refine z_iload_n C dX4_tick_35 rfl rfl ?_
  have hT := gTick_4 x0 x1 x2 x3 cs bs st u s0 s1 s2 s3 hs0 hs1 hs2 hs3
  subst hQ_
  exact z_ret (Γ := [eO a 4 [.ref o.sa, .ref o.pa, .ref o.ha, .ref o.xa, .int o.pn, .int o.ru, .ref o.ta, .int o.ty, .int o.sp, .int o.fr, .int o.re, .int o.ca, .int o.os, .int o.od, .ref o.na], eIA E o.sa 311 (upd f3 296 (s3.2.2.2.2.2.tk + 1))]) C dX4_tick_36 rfl rfl (Nat.le_of_ble_eq_true rfl) (Nat.le_of_ble_eq_true rfl) ⟨by rw [hT], _, rfl, by rw [hT]; exact Rep_tk k3_ R3_⟩

set_option maxHeartbeats 4000000 in
theorem m_Mpass {l : Launch} (hl : l.stackTraces = false) (E : eEn) (a : Nat) (o : Mo) (f : Nat → Int32) (A : Am) (hok : gOk A) (hwf : gWf A) (R : Rep f A) (n : Nat) (hn : n ≤ 50) : eMet l E yX4_pass (ws_ yX4_pass cX4_pass 4 (some .int)) ({ frames := 6, cells := 0, slots := 0, locals := 135 }) [.ref a, .int (nI n)] [eO a 4 [.ref o.sa, .ref o.pa, .ref o.ha, .ref o.xa, .int o.pn, .int o.ru, .ref o.ta, .int o.ty, .int o.sp, .int o.fr, .int o.re, .int o.ca, .int o.os, .int o.od, .ref o.na], eIA E o.sa 311 f] (fun w Γ => w = some (.int (gTicks n (0, A)).1) ∧ ∃ f2, Γ = [eMO a o, eIA E o.sa 311 f2] ∧ Rep f2 (gTicks n (0, A)).2) := by
  refine eStart (cc := cX4_pass) (nL := 4) (L := [some (.ref a), some (.int (nI n)), none, none]) hl (by decide) rfl (List.forall_mem_cons.mpr ⟨rfl, (List.forall_mem_cons.mpr ⟨rfl, (fun _ h => absurd h List.not_mem_nil)⟩)⟩) (Nat.le_of_ble_eq_true rfl) ?_
  intro x rs C
  show eZ x E (eQ x E (fun w Γ => w = some (.int (gTicks n (0, A)).1) ∧ ∃ f2, Γ = [eMO a o, eIA E o.sa 311 f2] ∧ Rep f2 (gTicks n (0, A)).2) rs) [eO a 4 [.ref o.sa, .ref o.pa, .ref o.ha, .ref o.xa, .int o.pn, .int o.ru, .ref o.ta, .int o.ty, .int o.sp, .int o.fr, .int o.re, .int o.ca, .int o.os, .int o.od, .ref o.na], eIA E o.sa 311 f, rs] 0 [some (.ref a), some (.int (nI n)), none, none] [] 0 0
  generalize hQ_ : eQ x E (fun w Γ => w = some (.int (gTicks n (0, A)).1) ∧ ∃ f2, Γ = [eMO a o, eIA E o.sa 311 f2] ∧ Rep f2 (gTicks n (0, A)).2) rs = Q_
  refine z_iconst (v := 0) C dX4_pass_0 (by decide) ?_
  refine z_istore_n (L2 := [some (.ref a), some (.int (nI n)), some (.int 0), none]) C dX4_pass_1 rfl (Nat.le_of_ble_eq_true rfl) rfl ?_
  refine z_iconst (v := 0) C dX4_pass_2 (by decide) ?_
  refine z_istore_n (L2 := [some (.ref a), some (.int (nI n)), some (.int 0), some (.int 0)]) C dX4_pass_3 rfl (Nat.le_of_ble_eq_true rfl) rfl ?_
  have K : ∀ (d i : Nat) (c : Int32) (f1 : Nat → Int32) (A1 : Am), i + d = n → gOk A1 → gWf A1 → Rep f1 A1 → gTicks d (c, A1) = gTicks n (0, A) → eZ x E Q_ [eO a 4 [.ref o.sa, .ref o.pa, .ref o.ha, .ref o.xa, .int o.pn, .int o.ru, .ref o.ta, .int o.ty, .int o.sp, .int o.fr, .int o.re, .int o.ca, .int o.os, .int o.od, .ref o.na], eIA E o.sa 311 f1, rs] 4 [some (.ref a), some (.int (nI n)), some (.int c), some (.int (nI i))] [] 0 0 := by
    intro d
    induction d with
    | zero =>
        intro i c f1 A1 hi hok1 hwf1 R1 hR
        obtain rfl : i = n := by omega
        refine z_iload_n C dX4_pass_4 rfl rfl ?_
        refine z_iload_n C dX4_pass_5 rfl rfl ?_
        refine z_icmp_ge 22 C dX4_pass_6 (by decide) (fun h_ => ?_) (fun h_ => absurd h_ (absurd (Int32.le_refl _) h_))
        refine z_iload_n C dX4_pass_22 rfl rfl ?_
        subst hQ_
        exact z_ret (Γ := [eO a 4 [.ref o.sa, .ref o.pa, .ref o.ha, .ref o.xa, .int o.pn, .int o.ru, .ref o.ta, .int o.ty, .int o.sp, .int o.fr, .int o.re, .int o.ca, .int o.os, .int o.od, .ref o.na], eIA E o.sa 311 f1]) C dX4_pass_23 rfl rfl (Nat.le_of_ble_eq_true rfl) (Nat.le_of_ble_eq_true rfl) ⟨by rw [← hR]; rfl, f1, rfl, by rw [← hR]; exact R1⟩
    | succ d ih =>
        intro i c f1 A1 hi hok1 hwf1 R1 hR
        refine z_iload_n C dX4_pass_4 rfl rfl ?_
        refine z_iload_n C dX4_pass_5 rfl rfl ?_
        refine z_icmp_ge 22 C dX4_pass_6 (by decide) (fun h_ => absurd h_ (nI_ge (a := i) (b := n) (by omega) (by omega))) (fun h_ => ?_)
        refine z_iload_n C dX4_pass_9 rfl rfl ?_
        refine z_aload_n C dX4_pass_10 rfl rfl ?_
        refine z_callV (r := (RX4, TX4, 15)) (As := []) (rest := [.int c]) (Δ := [rs]) [0, 1] [2] 0 (m_Mtick hl E a o f1 A1 hok1 hwf1 R1) C dX4_pass_11 rfl rfl (eIn (i := 0) rfl List.mem_cons_self) rfl rfl q1765 q1767 qs30 q67 q1768 (by decide +kernel) rfl (ePm 3 rfl (by decide +kernel)) rfl rfl ⟨Nat.le_of_ble_eq_true rfl, Nat.le_of_ble_eq_true rfl⟩ (Nat.le_trans (eSm rfl eS0) (Nat.le_of_ble_eq_true rfl)) ⟨Nat.le_of_ble_eq_true rfl, Nat.le_of_ble_eq_true rfl⟩ (fun v_ Γ_ hp_ => ?_)
        obtain ⟨rfl, f2, rfl, R2⟩ := hp_
        show eZ x E _ [eO a 4 [.ref o.sa, .ref o.pa, .ref o.ha, .ref o.xa, .int o.pn, .int o.ru, .ref o.ta, .int o.ty, .int o.sp, .int o.fr, .int o.re, .int o.ca, .int o.os, .int o.od, .ref o.na], eIA E o.sa 311 f2, rs] 14 [some (.ref a), some (.int (nI n)), some (.int c), some (.int (nI i))] [.int ((gTick A1).1), .int c] 0 0
        refine z_iadd (w := c + ((gTick A1).1)) C dX4_pass_14 rfl ?_
        refine z_istore_n (L2 := [some (.ref a), some (.int (nI n)), some (.int (c + ((gTick A1).1))), some (.int (nI i))]) C dX4_pass_15 rfl (Nat.le_of_ble_eq_true rfl) rfl ?_
        refine z_iinc (v := nI (i + 1)) (L2 := [some (.ref a), some (.int (nI n)), some (.int (c + ((gTick A1).1))), some (.int (nI (i + 1)))]) C dX4_pass_16 rfl (nI_1 i) rfl ?_
        refine z_goto 4 C dX4_pass_19 (by decide) ?_
        exact ih (i + 1) _ f2 _ (by omega) (gTick_ok hok1) (gTick_wf hok1 hwf1) R2 (by rw [← hR, gTicks_succ])
  exact K n 0 0 f A (by omega) hok hwf R rfl
