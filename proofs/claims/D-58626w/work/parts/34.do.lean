/-! ===== an order by its letter ===== -/
set_option maxRecDepth 100000
theorem eBkS_of {c c2 : Cm} {S : List (Nat × Enr)} (h : eBkS c S) (e : c2.bk = c.bk) : eBkS c2 S := fun z hz => h z (e ▸ hz)
def gDone (sg : Int32) (A : Am) (f : Nat → Int32) : Gr :=
  if sg = 101 then gPuts A (f 0) (f 1, f 2, 1, -1, 0, 0) else if sg = 120 then gPuts A (f 0) (f 1, f 2, f 4, f 5, f 3, 0) else if sg = 115 then gSpots A (f 0) (f 1)
  else if sg = 108 then gLights A (f 0) (f 1) else if sg = 116 then gTurns A (f 0) (f 1) else if sg = 99 then gCleans A (f 0) else if sg = 114 then gRuns A (f 0) else gSets A (f 0) (f 1)

theorem y_drop {x : eCx} {E : eEn} {Q : State → Prop} {Γ : List va_W} {pc : Nat} {L : List (Option Value)} {st : List Value} {q k n : Nat} {b : va_W} (kk : eY x E Q Γ pc L st q k n) : eY x E Q (b :: Γ) pc L st q k n := by
  intro H locs ls hP hD hS hl
  rw [List.flatten_cons] at hP hD
  have h1 := eD_iff.mp hD
  rw [List.map_append, List.nodup_append] at h1
  exact kk H locs ls ⟨eP_iff.mpr fun q hq => eP_iff.mp hP.1 q (List.mem_append_right _ hq), fun q hq => hP.2 q (List.mem_append_right _ hq)⟩ (eD_iff.mpr ⟨h1.1.2.1, fun q hq => h1.2 q (List.mem_append_right _ hq)⟩) hS hl

set_option maxHeartbeats 4000000 in
theorem m_done_e {l : Launch} (hl : l.stackTraces = false) (E : eEn) (c : Cm) (S : List (Nat × Enr)) (hok : gOk c.abs) (hS : eBkS c S) (na N : Nat) (f : Nat → Int32) (hN : 3 ≤ N) (hN2 : N < 1000) : eMetX l E yX0_done (ws_ yX0_done cX0_done 3 (some .int)) ({ frames := 8, cells := 4, slots := 23, locals := 147 }) [.ref c.a, .int 101, .ref na] [eMac E c, eIA E na N f, eSto S] (fun w Γ => ∃ r A2 c2 S2, gDone 101 c.abs f = .inr (r, A2) ∧ w = some (.int r) ∧ Γ = [eMac E c2, eIA E na N f, eSto S2] ∧ c2.abs = A2 ∧ c2.a = c.a ∧ eBkS c2 S2 ∧ ∀ z ∈ S, z ∈ S2) (fun q En Γ => ∃ code, gDone 101 c.abs f = .inl code ∧ En = RX6 ∧ ∃ r1 r2, Γ = [eRfB E q code r1 r2, eMac E c, eIA E na N f, eSto S]) := by
  refine eStartX (cc := cX0_done) (nL := 3) (L := [some (.ref c.a), some (.int 101), some (.ref na)]) hl (by decide) rfl (List.forall_mem_cons.mpr ⟨rfl, (List.forall_mem_cons.mpr ⟨rfl, (List.forall_mem_cons.mpr ⟨rfl, (fun _ h => absurd h List.not_mem_nil)⟩)⟩)⟩) (Nat.le_of_ble_eq_true rfl) ?_
  intro x rs C hT
  show eZ x E (eQX x E (fun w Γ => ∃ r A2 c2 S2, gDone 101 c.abs f = .inr (r, A2) ∧ w = some (.int r) ∧ Γ = [eMac E c2, eIA E na N f, eSto S2] ∧ c2.abs = A2 ∧ c2.a = c.a ∧ eBkS c2 S2 ∧ ∀ z ∈ S, z ∈ S2) (fun q En Γ => ∃ code, gDone 101 c.abs f = .inl code ∧ En = RX6 ∧ ∃ r1 r2, Γ = [eRfB E q code r1 r2, eMac E c, eIA E na N f, eSto S]) rs) [eMac E c, eIA E na N f, eSto S, rs] 0 [some (.ref c.a), some (.int 101), some (.ref na)] [] 0 0
  generalize hQ_ : eQX x E (fun w Γ => ∃ r A2 c2 S2, gDone 101 c.abs f = .inr (r, A2) ∧ w = some (.int r) ∧ Γ = [eMac E c2, eIA E na N f, eSto S2] ∧ c2.abs = A2 ∧ c2.a = c.a ∧ eBkS c2 S2 ∧ ∀ z ∈ S, z ∈ S2) (fun q En Γ => ∃ code, gDone 101 c.abs f = .inl code ∧ En = RX6 ∧ ∃ r1 r2, Γ = [eRfB E q code r1 r2, eMac E c, eIA E na N f, eSto S]) rs = Q_
  refine z_iload_n C dX0_done_0 rfl rfl ?_
  refine z_tabIn (off := 103) 104 C dX0_done_1 (by decide) (by decide) (by decide) (by decide) ?_
  refine z_aload_n C dX0_done_104 rfl rfl ?_
  refine z_aload_n C dX0_done_105 rfl rfl ?_
  refine z_iconst (v := 0) C dX0_done_106 (by decide) ?_
  refine z_iald (m := 0) (v := f 0) 1 C dX0_done_107 rfl rfl (by omega) (by omega) rfl ?_
  refine z_new (fs := [.int 0, .int 0, .int 0, .int 0, .int 0, .int 0]) eK5 C dX0_done_108 rfl q976 q898 q80 rfl (Nat.le_of_ble_eq_true rfl) (Nat.le_of_ble_eq_true rfl) (fun o1 => ?_)
  show eZ x E _ [eMac E c, eIA E na N f, eSto S, rs, eO o1 5 [.int 0, .int 0, .int 0, .int 0, .int 0, .int 0]] 111 [some (.ref c.a), some (.int 101), some (.ref na)] [.ref o1, .int (f 0), .ref c.a] 1 6
  refine z_dup C dX0_done_111 rfl ?_
  refine z_aload_n C dX0_done_112 rfl rfl ?_
  refine z_iconst (v := 1) C dX0_done_113 (by decide) ?_
  refine z_iald (m := 1) (v := f 1) 1 C dX0_done_114 rfl rfl (by omega) (by omega) rfl ?_
  refine z_aload_n C dX0_done_115 rfl rfl ?_
  refine z_iconst (v := 2) C dX0_done_116 (by decide) ?_
  refine z_iald (m := 2) (v := f 2) 1 C dX0_done_117 rfl rfl (by omega) (by omega) rfl ?_
  refine z_iconst (v := 0) C dX0_done_118 (by decide) ?_
  refine z_iconst (v := 1) C dX0_done_119 (by decide) ?_
  refine z_iconst (v := (-1)) C dX0_done_120 (by decide) ?_
  refine z_callI (As := [.int (f 1), .int (f 2), .int 0, .int 1, .int (-1)]) (rest := [.ref o1, .int (f 0), .ref c.a]) (Δ := [eMac E c, eIA E na N f, eSto S, rs]) [4] [0, 1, 2, 3] 5 (m_Egg_init2 hl E o1 (f 1) (f 2) 0 1 (-1)) C dX0_done_121 rfl rfl rfl q977 q903 q80 q904 rfl (by decide +kernel) rfl (ePm 5 rfl (by decide +kernel)) rfl rfl ⟨Nat.le_of_ble_eq_true rfl, Nat.le_of_ble_eq_true rfl⟩ (Nat.le_trans (eSm rfl (eSm rfl (eSm rfl eS0))) (Nat.le_of_ble_eq_true rfl)) ⟨Nat.le_of_ble_eq_true rfl, Nat.le_of_ble_eq_true rfl⟩ (fun v_ Γ_ hp_ => ?_)
  obtain ⟨rfl, rfl⟩ := hp_
  show eZ x E _ [eEg o1 (f 1, f 2, 1, -1, 0, 0), eMac E c, eIA E na N f, eSto S, rs] 124 [some (.ref c.a), some (.int 101), some (.ref na)] [.ref o1, .int (f 0), .ref c.a] 1 6
  refine z_callVX (r := (RX1, TX1, 10)) (As := [.int (f 0), .ref o1]) (rest := []) (Δ := [eIA E na N f, eSto S, rs]) [1, 0] [2, 3, 4] 2 (m_puts hl E c hok (f 0) o1 (f 1, f 2, 1, -1, 0, 0)) C dX0_done_124 rfl rfl (eIn (i := 1) rfl eMac_mem) rfl rfl q978 q979 q980 q50 q981 (by decide +kernel) rfl (ePm 5 rfl (by decide +kernel)) rfl rfl ⟨Nat.le_of_ble_eq_true rfl, Nat.le_of_ble_eq_true rfl⟩ (Nat.le_trans eS0 (Nat.le_of_ble_eq_true rfl)) ⟨Nat.le_of_ble_eq_true rfl, Nat.le_of_ble_eq_true rfl⟩ (fun q_ En_ Γ_ hx_ => ?_) (fun v_ Γ_ hp_ => ?_)
  · obtain ⟨code, he, rfl, r1, r2, rfl⟩ := hx_
    show eY x E _ [eRfB E q_ code r1 r2, eMac E c, eEg o1 (f 1, f 2, 1, -1, 0, 0), eIA E na N f, eSto S, rs] 124 [some (.ref c.a), some (.int 101), some (.ref na)] [] q_ 4 23
    refine y_perm (Γ' := [eEg o1 (f 1, f 2, 1, -1, 0, 0), eRfB E q_ code r1 r2, eMac E c, eIA E na N f, eSto S, rs]) (ePick_perm (ks := [2, 0, 1, 3, 4, 5]) (ePm 6 rfl (by decide +kernel))) ?_
    refine y_drop ?_
    subst hQ_
    exact z_out (Γ := [eRfB E q_ code r1 r2, eMac E c, eIA E na N f, eSto S]) C hT (by decide) (eIn (i := 0) rfl List.mem_cons_self) (show eCl[6]? = some _ from rfl) (Nat.le_of_ble_eq_true rfl) (Nat.le_of_ble_eq_true rfl) ⟨code, he, rfl, r1, r2, rfl⟩
  obtain ⟨r, A2, c2, he, rfl, rfl, ha, hca, hbk⟩ := hp_
  show eZ x E _ [eMac E c2, eIA E na N f, eSto S, rs] 127 [some (.ref c.a), some (.int 101), some (.ref na)] [.int r] 4 23
  refine z_pick (Γ' := [eMac E c2, eIA E na N f, eSto S, rs]) [0, 1, 2, 3] (ePm 4 rfl (by decide +kernel)) rfl ?_
  subst hQ_
  refine z_X ?_
  exact z_ret (Γ := [eMac E c2, eIA E na N f, eSto S]) C dX0_done_127 rfl rfl (Nat.le_of_ble_eq_true rfl) (Nat.le_of_ble_eq_true rfl) ⟨r, A2, c2, S, he, rfl, rfl, ha, hca, eBkS_of hS hbk, fun z h => h⟩

set_option maxHeartbeats 4000000 in
theorem m_done_x {l : Launch} (hl : l.stackTraces = false) (E : eEn) (c : Cm) (S : List (Nat × Enr)) (hok : gOk c.abs) (hS : eBkS c S) (na N : Nat) (f : Nat → Int32) (hN : 6 ≤ N) (hN2 : N < 1000) : eMetX l E yX0_done (ws_ yX0_done cX0_done 3 (some .int)) ({ frames := 8, cells := 4, slots := 23, locals := 147 }) [.ref c.a, .int 120, .ref na] [eMac E c, eIA E na N f, eSto S] (fun w Γ => ∃ r A2 c2 S2, gDone 120 c.abs f = .inr (r, A2) ∧ w = some (.int r) ∧ Γ = [eMac E c2, eIA E na N f, eSto S2] ∧ c2.abs = A2 ∧ c2.a = c.a ∧ eBkS c2 S2 ∧ ∀ z ∈ S, z ∈ S2) (fun q En Γ => ∃ code, gDone 120 c.abs f = .inl code ∧ En = RX6 ∧ ∃ r1 r2, Γ = [eRfB E q code r1 r2, eMac E c, eIA E na N f, eSto S]) := by
  refine eStartX (cc := cX0_done) (nL := 3) (L := [some (.ref c.a), some (.int 120), some (.ref na)]) hl (by decide) rfl (List.forall_mem_cons.mpr ⟨rfl, (List.forall_mem_cons.mpr ⟨rfl, (List.forall_mem_cons.mpr ⟨rfl, (fun _ h => absurd h List.not_mem_nil)⟩)⟩)⟩) (Nat.le_of_ble_eq_true rfl) ?_
  intro x rs C hT
  show eZ x E (eQX x E (fun w Γ => ∃ r A2 c2 S2, gDone 120 c.abs f = .inr (r, A2) ∧ w = some (.int r) ∧ Γ = [eMac E c2, eIA E na N f, eSto S2] ∧ c2.abs = A2 ∧ c2.a = c.a ∧ eBkS c2 S2 ∧ ∀ z ∈ S, z ∈ S2) (fun q En Γ => ∃ code, gDone 120 c.abs f = .inl code ∧ En = RX6 ∧ ∃ r1 r2, Γ = [eRfB E q code r1 r2, eMac E c, eIA E na N f, eSto S]) rs) [eMac E c, eIA E na N f, eSto S, rs] 0 [some (.ref c.a), some (.int 120), some (.ref na)] [] 0 0
  generalize hQ_ : eQX x E (fun w Γ => ∃ r A2 c2 S2, gDone 120 c.abs f = .inr (r, A2) ∧ w = some (.int r) ∧ Γ = [eMac E c2, eIA E na N f, eSto S2] ∧ c2.abs = A2 ∧ c2.a = c.a ∧ eBkS c2 S2 ∧ ∀ z ∈ S, z ∈ S2) (fun q En Γ => ∃ code, gDone 120 c.abs f = .inl code ∧ En = RX6 ∧ ∃ r1 r2, Γ = [eRfB E q code r1 r2, eMac E c, eIA E na N f, eSto S]) rs = Q_
  refine z_iload_n C dX0_done_0 rfl rfl ?_
  refine z_tabIn (off := 127) 128 C dX0_done_1 (by decide) (by decide) (by decide) (by decide) ?_
  refine z_aload_n C dX0_done_128 rfl rfl ?_
  refine z_aload_n C dX0_done_129 rfl rfl ?_
  refine z_iconst (v := 0) C dX0_done_130 (by decide) ?_
  refine z_iald (m := 0) (v := f 0) 1 C dX0_done_131 rfl rfl (by omega) (by omega) rfl ?_
  refine z_new (fs := [.int 0, .int 0, .int 0, .int 0, .int 0, .int 0]) eK5 C dX0_done_132 rfl q976 q898 q80 rfl (Nat.le_of_ble_eq_true rfl) (Nat.le_of_ble_eq_true rfl) (fun o1 => ?_)
  show eZ x E _ [eMac E c, eIA E na N f, eSto S, rs, eO o1 5 [.int 0, .int 0, .int 0, .int 0, .int 0, .int 0]] 135 [some (.ref c.a), some (.int 120), some (.ref na)] [.ref o1, .int (f 0), .ref c.a] 1 6
  refine z_dup C dX0_done_135 rfl ?_
  refine z_aload_n C dX0_done_136 rfl rfl ?_
  refine z_iconst (v := 1) C dX0_done_137 (by decide) ?_
  refine z_iald (m := 1) (v := f 1) 1 C dX0_done_138 rfl rfl (by omega) (by omega) rfl ?_
  refine z_aload_n C dX0_done_139 rfl rfl ?_
  refine z_iconst (v := 2) C dX0_done_140 (by decide) ?_
  refine z_iald (m := 2) (v := f 2) 1 C dX0_done_141 rfl rfl (by omega) (by omega) rfl ?_
  refine z_aload_n C dX0_done_142 rfl rfl ?_
  refine z_iconst (v := 3) C dX0_done_143 (by decide) ?_
  refine z_iald (m := 3) (v := f 3) 1 C dX0_done_144 rfl rfl (by omega) (by omega) rfl ?_
  refine z_aload_n C dX0_done_145 rfl rfl ?_
  refine z_iconst (v := 4) C dX0_done_146 (by decide) ?_
  refine z_iald (m := 4) (v := f 4) 1 C dX0_done_147 rfl rfl (by omega) (by omega) rfl ?_
  refine z_aload_n C dX0_done_148 rfl rfl ?_
  refine z_iconst (v := 5) C dX0_done_149 (by decide) ?_
  refine z_iald (m := 5) (v := f 5) 1 C dX0_done_150 rfl rfl (by omega) (by omega) rfl ?_
  refine z_callI (As := [.int (f 1), .int (f 2), .int (f 3), .int (f 4), .int (f 5)]) (rest := [.ref o1, .int (f 0), .ref c.a]) (Δ := [eMac E c, eIA E na N f, eSto S, rs]) [4] [0, 1, 2, 3] 5 (m_Egg_init2 hl E o1 (f 1) (f 2) (f 3) (f 4) (f 5)) C dX0_done_151 rfl rfl rfl q977 q903 q80 q904 rfl (by decide +kernel) rfl (ePm 5 rfl (by decide +kernel)) rfl rfl ⟨Nat.le_of_ble_eq_true rfl, Nat.le_of_ble_eq_true rfl⟩ (Nat.le_trans (eSm rfl (eSm rfl (eSm rfl eS0))) (Nat.le_of_ble_eq_true rfl)) ⟨Nat.le_of_ble_eq_true rfl, Nat.le_of_ble_eq_true rfl⟩ (fun v_ Γ_ hp_ => ?_)
  obtain ⟨rfl, rfl⟩ := hp_
  show eZ x E _ [eEg o1 (f 1, f 2, f 4, f 5, f 3, 0), eMac E c, eIA E na N f, eSto S, rs] 154 [some (.ref c.a), some (.int 120), some (.ref na)] [.ref o1, .int (f 0), .ref c.a] 1 6
  refine z_callVX (r := (RX1, TX1, 10)) (As := [.int (f 0), .ref o1]) (rest := []) (Δ := [eIA E na N f, eSto S, rs]) [1, 0] [2, 3, 4] 2 (m_puts hl E c hok (f 0) o1 (f 1, f 2, f 4, f 5, f 3, 0)) C dX0_done_154 rfl rfl (eIn (i := 1) rfl eMac_mem) rfl rfl q978 q979 q980 q50 q981 (by decide +kernel) rfl (ePm 5 rfl (by decide +kernel)) rfl rfl ⟨Nat.le_of_ble_eq_true rfl, Nat.le_of_ble_eq_true rfl⟩ (Nat.le_trans eS0 (Nat.le_of_ble_eq_true rfl)) ⟨Nat.le_of_ble_eq_true rfl, Nat.le_of_ble_eq_true rfl⟩ (fun q_ En_ Γ_ hx_ => ?_) (fun v_ Γ_ hp_ => ?_)
  · obtain ⟨code, he, rfl, r1, r2, rfl⟩ := hx_
    show eY x E _ [eRfB E q_ code r1 r2, eMac E c, eEg o1 (f 1, f 2, f 4, f 5, f 3, 0), eIA E na N f, eSto S, rs] 154 [some (.ref c.a), some (.int 120), some (.ref na)] [] q_ 4 23
    refine y_perm (Γ' := [eEg o1 (f 1, f 2, f 4, f 5, f 3, 0), eRfB E q_ code r1 r2, eMac E c, eIA E na N f, eSto S, rs]) (ePick_perm (ks := [2, 0, 1, 3, 4, 5]) (ePm 6 rfl (by decide +kernel))) ?_
    refine y_drop ?_
    subst hQ_
    exact z_out (Γ := [eRfB E q_ code r1 r2, eMac E c, eIA E na N f, eSto S]) C hT (by decide) (eIn (i := 0) rfl List.mem_cons_self) (show eCl[6]? = some _ from rfl) (Nat.le_of_ble_eq_true rfl) (Nat.le_of_ble_eq_true rfl) ⟨code, he, rfl, r1, r2, rfl⟩
  obtain ⟨r, A2, c2, he, rfl, rfl, ha, hca, hbk⟩ := hp_
  show eZ x E _ [eMac E c2, eIA E na N f, eSto S, rs] 157 [some (.ref c.a), some (.int 120), some (.ref na)] [.int r] 4 23
  refine z_pick (Γ' := [eMac E c2, eIA E na N f, eSto S, rs]) [0, 1, 2, 3] (ePm 4 rfl (by decide +kernel)) rfl ?_
  subst hQ_
  refine z_X ?_
  exact z_ret (Γ := [eMac E c2, eIA E na N f, eSto S]) C dX0_done_157 rfl rfl (Nat.le_of_ble_eq_true rfl) (Nat.le_of_ble_eq_true rfl) ⟨r, A2, c2, S, he, rfl, rfl, ha, hca, eBkS_of hS hbk, fun z h => h⟩

set_option maxHeartbeats 4000000 in
theorem m_done_s {l : Launch} (hl : l.stackTraces = false) (E : eEn) (c : Cm) (S : List (Nat × Enr)) (hok : gOk c.abs) (hS : eBkS c S) (na N : Nat) (f : Nat → Int32) (hN : 2 ≤ N) (hN2 : N < 1000) : eMetX l E yX0_done (ws_ yX0_done cX0_done 3 (some .int)) ({ frames := 8, cells := 2, slots := 14, locals := 147 }) [.ref c.a, .int 115, .ref na] [eMac E c, eIA E na N f, eSto S] (fun w Γ => ∃ r A2 c2 S2, gDone 115 c.abs f = .inr (r, A2) ∧ w = some (.int r) ∧ Γ = [eMac E c2, eIA E na N f, eSto S2] ∧ c2.abs = A2 ∧ c2.a = c.a ∧ eBkS c2 S2 ∧ ∀ z ∈ S, z ∈ S2) (fun q En Γ => ∃ code, gDone 115 c.abs f = .inl code ∧ En = RX6 ∧ ∃ r1 r2, Γ = [eRfB E q code r1 r2, eMac E c, eIA E na N f, eSto S]) := by
  refine eStartX (cc := cX0_done) (nL := 3) (L := [some (.ref c.a), some (.int 115), some (.ref na)]) hl (by decide) rfl (List.forall_mem_cons.mpr ⟨rfl, (List.forall_mem_cons.mpr ⟨rfl, (List.forall_mem_cons.mpr ⟨rfl, (fun _ h => absurd h List.not_mem_nil)⟩)⟩)⟩) (Nat.le_of_ble_eq_true rfl) ?_
  intro x rs C hT
  show eZ x E (eQX x E (fun w Γ => ∃ r A2 c2 S2, gDone 115 c.abs f = .inr (r, A2) ∧ w = some (.int r) ∧ Γ = [eMac E c2, eIA E na N f, eSto S2] ∧ c2.abs = A2 ∧ c2.a = c.a ∧ eBkS c2 S2 ∧ ∀ z ∈ S, z ∈ S2) (fun q En Γ => ∃ code, gDone 115 c.abs f = .inl code ∧ En = RX6 ∧ ∃ r1 r2, Γ = [eRfB E q code r1 r2, eMac E c, eIA E na N f, eSto S]) rs) [eMac E c, eIA E na N f, eSto S, rs] 0 [some (.ref c.a), some (.int 115), some (.ref na)] [] 0 0
  generalize hQ_ : eQX x E (fun w Γ => ∃ r A2 c2 S2, gDone 115 c.abs f = .inr (r, A2) ∧ w = some (.int r) ∧ Γ = [eMac E c2, eIA E na N f, eSto S2] ∧ c2.abs = A2 ∧ c2.a = c.a ∧ eBkS c2 S2 ∧ ∀ z ∈ S, z ∈ S2) (fun q En Γ => ∃ code, gDone 115 c.abs f = .inl code ∧ En = RX6 ∧ ∃ r1 r2, Γ = [eRfB E q code r1 r2, eMac E c, eIA E na N f, eSto S]) rs = Q_
  refine z_iload_n C dX0_done_0 rfl rfl ?_
  refine z_tabIn (off := 157) 158 C dX0_done_1 (by decide) (by decide) (by decide) (by decide) ?_
  refine z_aload_n C dX0_done_158 rfl rfl ?_
  refine z_aload_n C dX0_done_159 rfl rfl ?_
  refine z_iconst (v := 0) C dX0_done_160 (by decide) ?_
  refine z_iald (m := 0) (v := f 0) 1 C dX0_done_161 rfl rfl (by omega) (by omega) rfl ?_
  refine z_aload_n C dX0_done_162 rfl rfl ?_
  refine z_iconst (v := 1) C dX0_done_163 (by decide) ?_
  refine z_iald (m := 1) (v := f 1) 1 C dX0_done_164 rfl rfl (by omega) (by omega) rfl ?_
  refine z_callVX (r := (RX1, TX1, 10)) (As := [.int (f 0), .int (f 1)]) (rest := []) (Δ := [eIA E na N f, eSto S, rs]) [0] [1, 2, 3] 2 (m_spots hl E c hok (f 0) (f 1)) C dX0_done_165 rfl rfl (eIn (i := 0) rfl eMac_mem) rfl rfl q1032 q1033 q1034 q50 q1035 (by decide +kernel) rfl (ePm 4 rfl (by decide +kernel)) rfl rfl ⟨Nat.le_of_ble_eq_true rfl, Nat.le_of_ble_eq_true rfl⟩ (Nat.le_trans eS0 (Nat.le_of_ble_eq_true rfl)) ⟨Nat.le_of_ble_eq_true rfl, Nat.le_of_ble_eq_true rfl⟩ (fun q_ En_ Γ_ hx_ => ?_) (fun v_ Γ_ hp_ => ?_)
  · obtain ⟨code, he, rfl, r1, r2, rfl⟩ := hx_
    show eY x E _ [eRfB E q_ code r1 r2, eMac E c, eIA E na N f, eSto S, rs] 165 [some (.ref c.a), some (.int 115), some (.ref na)] [] q_ 2 14
    refine y_pick (Γ' := [eRfB E q_ code r1 r2, eMac E c, eIA E na N f, eSto S, rs]) [0, 1, 2, 3, 4] (ePm 5 rfl (by decide +kernel)) rfl ?_
    subst hQ_
    exact z_out (Γ := [eRfB E q_ code r1 r2, eMac E c, eIA E na N f, eSto S]) C hT (by decide) (eIn (i := 0) rfl List.mem_cons_self) (show eCl[6]? = some _ from rfl) (Nat.le_of_ble_eq_true rfl) (Nat.le_of_ble_eq_true rfl) ⟨code, he, rfl, r1, r2, rfl⟩
  obtain ⟨r, A2, c2, he, rfl, rfl, ha, hca, hbk⟩ := hp_
  show eZ x E _ [eMac E c2, eIA E na N f, eSto S, rs] 168 [some (.ref c.a), some (.int 115), some (.ref na)] [.int r] 2 14
  refine z_pick (Γ' := [eMac E c2, eIA E na N f, eSto S, rs]) [0, 1, 2, 3] (ePm 4 rfl (by decide +kernel)) rfl ?_
  subst hQ_
  refine z_X ?_
  exact z_ret (Γ := [eMac E c2, eIA E na N f, eSto S]) C dX0_done_168 rfl rfl (Nat.le_of_ble_eq_true rfl) (Nat.le_of_ble_eq_true rfl) ⟨r, A2, c2, S, he, rfl, rfl, ha, hca, eBkS_of hS hbk, fun z h => h⟩

set_option maxHeartbeats 4000000 in
theorem m_done_l {l : Launch} (hl : l.stackTraces = false) (E : eEn) (c : Cm) (S : List (Nat × Enr)) (hok : gOk c.abs) (hS : eBkS c S) (na N : Nat) (f : Nat → Int32) (hN : 2 ≤ N) (hN2 : N < 1000) : eMetX l E yX0_done (ws_ yX0_done cX0_done 3 (some .int)) ({ frames := 8, cells := 2, slots := 14, locals := 147 }) [.ref c.a, .int 108, .ref na] [eMac E c, eIA E na N f, eSto S] (fun w Γ => ∃ r A2 c2 S2, gDone 108 c.abs f = .inr (r, A2) ∧ w = some (.int r) ∧ Γ = [eMac E c2, eIA E na N f, eSto S2] ∧ c2.abs = A2 ∧ c2.a = c.a ∧ eBkS c2 S2 ∧ ∀ z ∈ S, z ∈ S2) (fun q En Γ => ∃ code, gDone 108 c.abs f = .inl code ∧ En = RX6 ∧ ∃ r1 r2, Γ = [eRfB E q code r1 r2, eMac E c, eIA E na N f, eSto S]) := by
  refine eStartX (cc := cX0_done) (nL := 3) (L := [some (.ref c.a), some (.int 108), some (.ref na)]) hl (by decide) rfl (List.forall_mem_cons.mpr ⟨rfl, (List.forall_mem_cons.mpr ⟨rfl, (List.forall_mem_cons.mpr ⟨rfl, (fun _ h => absurd h List.not_mem_nil)⟩)⟩)⟩) (Nat.le_of_ble_eq_true rfl) ?_
  intro x rs C hT
  show eZ x E (eQX x E (fun w Γ => ∃ r A2 c2 S2, gDone 108 c.abs f = .inr (r, A2) ∧ w = some (.int r) ∧ Γ = [eMac E c2, eIA E na N f, eSto S2] ∧ c2.abs = A2 ∧ c2.a = c.a ∧ eBkS c2 S2 ∧ ∀ z ∈ S, z ∈ S2) (fun q En Γ => ∃ code, gDone 108 c.abs f = .inl code ∧ En = RX6 ∧ ∃ r1 r2, Γ = [eRfB E q code r1 r2, eMac E c, eIA E na N f, eSto S]) rs) [eMac E c, eIA E na N f, eSto S, rs] 0 [some (.ref c.a), some (.int 108), some (.ref na)] [] 0 0
  generalize hQ_ : eQX x E (fun w Γ => ∃ r A2 c2 S2, gDone 108 c.abs f = .inr (r, A2) ∧ w = some (.int r) ∧ Γ = [eMac E c2, eIA E na N f, eSto S2] ∧ c2.abs = A2 ∧ c2.a = c.a ∧ eBkS c2 S2 ∧ ∀ z ∈ S, z ∈ S2) (fun q En Γ => ∃ code, gDone 108 c.abs f = .inl code ∧ En = RX6 ∧ ∃ r1 r2, Γ = [eRfB E q code r1 r2, eMac E c, eIA E na N f, eSto S]) rs = Q_
  refine z_iload_n C dX0_done_0 rfl rfl ?_
  refine z_tabIn (off := 168) 169 C dX0_done_1 (by decide) (by decide) (by decide) (by decide) ?_
  refine z_aload_n C dX0_done_169 rfl rfl ?_
  refine z_aload_n C dX0_done_170 rfl rfl ?_
  refine z_iconst (v := 0) C dX0_done_171 (by decide) ?_
  refine z_iald (m := 0) (v := f 0) 1 C dX0_done_172 rfl rfl (by omega) (by omega) rfl ?_
  refine z_aload_n C dX0_done_173 rfl rfl ?_
  refine z_iconst (v := 1) C dX0_done_174 (by decide) ?_
  refine z_iald (m := 1) (v := f 1) 1 C dX0_done_175 rfl rfl (by omega) (by omega) rfl ?_
  refine z_callVX (r := (RX1, TX1, 10)) (As := [.int (f 0), .int (f 1)]) (rest := []) (Δ := [eIA E na N f, eSto S, rs]) [0] [1, 2, 3] 2 (m_lights hl E c hok (f 0) (f 1)) C dX0_done_176 rfl rfl (eIn (i := 0) rfl eMac_mem) rfl rfl q1054 q1055 q1056 q50 q1057 (by decide +kernel) rfl (ePm 4 rfl (by decide +kernel)) rfl rfl ⟨Nat.le_of_ble_eq_true rfl, Nat.le_of_ble_eq_true rfl⟩ (Nat.le_trans eS0 (Nat.le_of_ble_eq_true rfl)) ⟨Nat.le_of_ble_eq_true rfl, Nat.le_of_ble_eq_true rfl⟩ (fun q_ En_ Γ_ hx_ => ?_) (fun v_ Γ_ hp_ => ?_)
  · obtain ⟨code, he, rfl, r1, r2, rfl⟩ := hx_
    show eY x E _ [eRfB E q_ code r1 r2, eMac E c, eIA E na N f, eSto S, rs] 176 [some (.ref c.a), some (.int 108), some (.ref na)] [] q_ 1 7
    refine y_pick (Γ' := [eRfB E q_ code r1 r2, eMac E c, eIA E na N f, eSto S, rs]) [0, 1, 2, 3, 4] (ePm 5 rfl (by decide +kernel)) rfl ?_
    subst hQ_
    exact z_out (Γ := [eRfB E q_ code r1 r2, eMac E c, eIA E na N f, eSto S]) C hT (by decide) (eIn (i := 0) rfl List.mem_cons_self) (show eCl[6]? = some _ from rfl) (Nat.le_of_ble_eq_true rfl) (Nat.le_of_ble_eq_true rfl) ⟨code, he, rfl, r1, r2, rfl⟩
  obtain ⟨r, A2, c2, he, rfl, rfl, ha, hca, hbk⟩ := hp_
  show eZ x E _ [eMac E c2, eIA E na N f, eSto S, rs] 179 [some (.ref c.a), some (.int 108), some (.ref na)] [.int r] 1 7
  refine z_pick (Γ' := [eMac E c2, eIA E na N f, eSto S, rs]) [0, 1, 2, 3] (ePm 4 rfl (by decide +kernel)) rfl ?_
  subst hQ_
  refine z_X ?_
  exact z_ret (Γ := [eMac E c2, eIA E na N f, eSto S]) C dX0_done_179 rfl rfl (Nat.le_of_ble_eq_true rfl) (Nat.le_of_ble_eq_true rfl) ⟨r, A2, c2, S, he, rfl, rfl, ha, hca, eBkS_of hS hbk, fun z h => h⟩

set_option maxHeartbeats 4000000 in
theorem m_done_t {l : Launch} (hl : l.stackTraces = false) (E : eEn) (c : Cm) (S : List (Nat × Enr)) (hok : gOk c.abs) (hS : eBkS c S) (na N : Nat) (f : Nat → Int32) (hN : 2 ≤ N) (hN2 : N < 1000) : eMetX l E yX0_done (ws_ yX0_done cX0_done 3 (some .int)) ({ frames := 8, cells := 2, slots := 14, locals := 147 }) [.ref c.a, .int 116, .ref na] [eMac E c, eIA E na N f, eSto S] (fun w Γ => ∃ r A2 c2 S2, gDone 116 c.abs f = .inr (r, A2) ∧ w = some (.int r) ∧ Γ = [eMac E c2, eIA E na N f, eSto S2] ∧ c2.abs = A2 ∧ c2.a = c.a ∧ eBkS c2 S2 ∧ ∀ z ∈ S, z ∈ S2) (fun q En Γ => ∃ code, gDone 116 c.abs f = .inl code ∧ En = RX6 ∧ ∃ r1 r2, Γ = [eRfB E q code r1 r2, eMac E c, eIA E na N f, eSto S]) := by
  refine eStartX (cc := cX0_done) (nL := 3) (L := [some (.ref c.a), some (.int 116), some (.ref na)]) hl (by decide) rfl (List.forall_mem_cons.mpr ⟨rfl, (List.forall_mem_cons.mpr ⟨rfl, (List.forall_mem_cons.mpr ⟨rfl, (fun _ h => absurd h List.not_mem_nil)⟩)⟩)⟩) (Nat.le_of_ble_eq_true rfl) ?_
  intro x rs C hT
  show eZ x E (eQX x E (fun w Γ => ∃ r A2 c2 S2, gDone 116 c.abs f = .inr (r, A2) ∧ w = some (.int r) ∧ Γ = [eMac E c2, eIA E na N f, eSto S2] ∧ c2.abs = A2 ∧ c2.a = c.a ∧ eBkS c2 S2 ∧ ∀ z ∈ S, z ∈ S2) (fun q En Γ => ∃ code, gDone 116 c.abs f = .inl code ∧ En = RX6 ∧ ∃ r1 r2, Γ = [eRfB E q code r1 r2, eMac E c, eIA E na N f, eSto S]) rs) [eMac E c, eIA E na N f, eSto S, rs] 0 [some (.ref c.a), some (.int 116), some (.ref na)] [] 0 0
  generalize hQ_ : eQX x E (fun w Γ => ∃ r A2 c2 S2, gDone 116 c.abs f = .inr (r, A2) ∧ w = some (.int r) ∧ Γ = [eMac E c2, eIA E na N f, eSto S2] ∧ c2.abs = A2 ∧ c2.a = c.a ∧ eBkS c2 S2 ∧ ∀ z ∈ S, z ∈ S2) (fun q En Γ => ∃ code, gDone 116 c.abs f = .inl code ∧ En = RX6 ∧ ∃ r1 r2, Γ = [eRfB E q code r1 r2, eMac E c, eIA E na N f, eSto S]) rs = Q_
  refine z_iload_n C dX0_done_0 rfl rfl ?_
  refine z_tabIn (off := 179) 180 C dX0_done_1 (by decide) (by decide) (by decide) (by decide) ?_
  refine z_aload_n C dX0_done_180 rfl rfl ?_
  refine z_aload_n C dX0_done_181 rfl rfl ?_
  refine z_iconst (v := 0) C dX0_done_182 (by decide) ?_
  refine z_iald (m := 0) (v := f 0) 1 C dX0_done_183 rfl rfl (by omega) (by omega) rfl ?_
  refine z_aload_n C dX0_done_184 rfl rfl ?_
  refine z_iconst (v := 1) C dX0_done_185 (by decide) ?_
  refine z_iald (m := 1) (v := f 1) 1 C dX0_done_186 rfl rfl (by omega) (by omega) rfl ?_
  refine z_callVX (r := (RX1, TX1, 10)) (As := [.int (f 0), .int (f 1)]) (rest := []) (Δ := [eIA E na N f, eSto S, rs]) [0] [1, 2, 3] 2 (m_turns hl E c hok (f 0) (f 1)) C dX0_done_187 rfl rfl (eIn (i := 0) rfl eMac_mem) rfl rfl q1058 q1059 q1060 q50 q1061 (by decide +kernel) rfl (ePm 4 rfl (by decide +kernel)) rfl rfl ⟨Nat.le_of_ble_eq_true rfl, Nat.le_of_ble_eq_true rfl⟩ (Nat.le_trans eS0 (Nat.le_of_ble_eq_true rfl)) ⟨Nat.le_of_ble_eq_true rfl, Nat.le_of_ble_eq_true rfl⟩ (fun q_ En_ Γ_ hx_ => ?_) (fun v_ Γ_ hp_ => ?_)
  · obtain ⟨code, he, rfl, r1, r2, rfl⟩ := hx_
    show eY x E _ [eRfB E q_ code r1 r2, eMac E c, eIA E na N f, eSto S, rs] 187 [some (.ref c.a), some (.int 116), some (.ref na)] [] q_ 1 7
    refine y_pick (Γ' := [eRfB E q_ code r1 r2, eMac E c, eIA E na N f, eSto S, rs]) [0, 1, 2, 3, 4] (ePm 5 rfl (by decide +kernel)) rfl ?_
    subst hQ_
    exact z_out (Γ := [eRfB E q_ code r1 r2, eMac E c, eIA E na N f, eSto S]) C hT (by decide) (eIn (i := 0) rfl List.mem_cons_self) (show eCl[6]? = some _ from rfl) (Nat.le_of_ble_eq_true rfl) (Nat.le_of_ble_eq_true rfl) ⟨code, he, rfl, r1, r2, rfl⟩
  obtain ⟨r, A2, c2, he, rfl, rfl, ha, hca, hbk⟩ := hp_
  show eZ x E _ [eMac E c2, eIA E na N f, eSto S, rs] 190 [some (.ref c.a), some (.int 116), some (.ref na)] [.int r] 1 7
  refine z_pick (Γ' := [eMac E c2, eIA E na N f, eSto S, rs]) [0, 1, 2, 3] (ePm 4 rfl (by decide +kernel)) rfl ?_
  subst hQ_
  refine z_X ?_
  exact z_ret (Γ := [eMac E c2, eIA E na N f, eSto S]) C dX0_done_190 rfl rfl (Nat.le_of_ble_eq_true rfl) (Nat.le_of_ble_eq_true rfl) ⟨r, A2, c2, S, he, rfl, rfl, ha, hca, eBkS_of hS hbk, fun z h => h⟩

set_option maxHeartbeats 4000000 in
theorem m_done_c {l : Launch} (hl : l.stackTraces = false) (E : eEn) (c : Cm) (S : List (Nat × Enr)) (hok : gOk c.abs) (hS : eBkS c S) (na N : Nat) (f : Nat → Int32) (hN : 1 ≤ N) (hN2 : N < 1000) : eMetX l E yX0_done (ws_ yX0_done cX0_done 3 (some .int)) ({ frames := 8, cells := 2, slots := 14, locals := 146 }) [.ref c.a, .int 99, .ref na] [eMac E c, eIA E na N f, eSto S] (fun w Γ => ∃ r A2 c2 S2, gDone 99 c.abs f = .inr (r, A2) ∧ w = some (.int r) ∧ Γ = [eMac E c2, eIA E na N f, eSto S2] ∧ c2.abs = A2 ∧ c2.a = c.a ∧ eBkS c2 S2 ∧ ∀ z ∈ S, z ∈ S2) (fun q En Γ => ∃ code, gDone 99 c.abs f = .inl code ∧ En = RX6 ∧ ∃ r1 r2, Γ = [eRfB E q code r1 r2, eMac E c, eIA E na N f, eSto S]) := by
  refine eStartX (cc := cX0_done) (nL := 3) (L := [some (.ref c.a), some (.int 99), some (.ref na)]) hl (by decide) rfl (List.forall_mem_cons.mpr ⟨rfl, (List.forall_mem_cons.mpr ⟨rfl, (List.forall_mem_cons.mpr ⟨rfl, (fun _ h => absurd h List.not_mem_nil)⟩)⟩)⟩) (Nat.le_of_ble_eq_true rfl) ?_
  intro x rs C hT
  show eZ x E (eQX x E (fun w Γ => ∃ r A2 c2 S2, gDone 99 c.abs f = .inr (r, A2) ∧ w = some (.int r) ∧ Γ = [eMac E c2, eIA E na N f, eSto S2] ∧ c2.abs = A2 ∧ c2.a = c.a ∧ eBkS c2 S2 ∧ ∀ z ∈ S, z ∈ S2) (fun q En Γ => ∃ code, gDone 99 c.abs f = .inl code ∧ En = RX6 ∧ ∃ r1 r2, Γ = [eRfB E q code r1 r2, eMac E c, eIA E na N f, eSto S]) rs) [eMac E c, eIA E na N f, eSto S, rs] 0 [some (.ref c.a), some (.int 99), some (.ref na)] [] 0 0
  generalize hQ_ : eQX x E (fun w Γ => ∃ r A2 c2 S2, gDone 99 c.abs f = .inr (r, A2) ∧ w = some (.int r) ∧ Γ = [eMac E c2, eIA E na N f, eSto S2] ∧ c2.abs = A2 ∧ c2.a = c.a ∧ eBkS c2 S2 ∧ ∀ z ∈ S, z ∈ S2) (fun q En Γ => ∃ code, gDone 99 c.abs f = .inl code ∧ En = RX6 ∧ ∃ r1 r2, Γ = [eRfB E q code r1 r2, eMac E c, eIA E na N f, eSto S]) rs = Q_
  refine z_iload_n C dX0_done_0 rfl rfl ?_
  refine z_tabIn (off := 190) 191 C dX0_done_1 (by decide) (by decide) (by decide) (by decide) ?_
  refine z_aload_n C dX0_done_191 rfl rfl ?_
  refine z_aload_n C dX0_done_192 rfl rfl ?_
  refine z_iconst (v := 0) C dX0_done_193 (by decide) ?_
  refine z_iald (m := 0) (v := f 0) 1 C dX0_done_194 rfl rfl (by omega) (by omega) rfl ?_
  refine z_callVX (r := (RX1, TX1, 10)) (As := [.int (f 0)]) (rest := []) (Δ := [eIA E na N f, eSto S, rs]) [0] [1, 2, 3] 1 (m_cleans hl E c hok (f 0)) C dX0_done_195 rfl rfl (eIn (i := 0) rfl eMac_mem) rfl rfl q1062 q1063 q1064 q50 q1065 (by decide +kernel) rfl (ePm 4 rfl (by decide +kernel)) rfl rfl ⟨Nat.le_of_ble_eq_true rfl, Nat.le_of_ble_eq_true rfl⟩ (Nat.le_trans eS0 (Nat.le_of_ble_eq_true rfl)) ⟨Nat.le_of_ble_eq_true rfl, Nat.le_of_ble_eq_true rfl⟩ (fun q_ En_ Γ_ hx_ => ?_) (fun v_ Γ_ hp_ => ?_)
  · obtain ⟨code, he, rfl, r1, r2, rfl⟩ := hx_
    show eY x E _ [eRfB E q_ code r1 r2, eMac E c, eIA E na N f, eSto S, rs] 195 [some (.ref c.a), some (.int 99), some (.ref na)] [] q_ 1 7
    refine y_pick (Γ' := [eRfB E q_ code r1 r2, eMac E c, eIA E na N f, eSto S, rs]) [0, 1, 2, 3, 4] (ePm 5 rfl (by decide +kernel)) rfl ?_
    subst hQ_
    exact z_out (Γ := [eRfB E q_ code r1 r2, eMac E c, eIA E na N f, eSto S]) C hT (by decide) (eIn (i := 0) rfl List.mem_cons_self) (show eCl[6]? = some _ from rfl) (Nat.le_of_ble_eq_true rfl) (Nat.le_of_ble_eq_true rfl) ⟨code, he, rfl, r1, r2, rfl⟩
  obtain ⟨r, A2, c2, he, rfl, rfl, ha, hca, hbk⟩ := hp_
  show eZ x E _ [eMac E c2, eIA E na N f, eSto S, rs] 198 [some (.ref c.a), some (.int 99), some (.ref na)] [.int r] 1 7
  refine z_pick (Γ' := [eMac E c2, eIA E na N f, eSto S, rs]) [0, 1, 2, 3] (ePm 4 rfl (by decide +kernel)) rfl ?_
  subst hQ_
  refine z_X ?_
  exact z_ret (Γ := [eMac E c2, eIA E na N f, eSto S]) C dX0_done_198 rfl rfl (Nat.le_of_ble_eq_true rfl) (Nat.le_of_ble_eq_true rfl) ⟨r, A2, c2, S, he, rfl, rfl, ha, hca, eBkS_of hS hbk, fun z h => h⟩

set_option maxHeartbeats 4000000 in
theorem m_done_r {l : Launch} (hl : l.stackTraces = false) (E : eEn) (c : Cm) (S : List (Nat × Enr)) (hok : gOk c.abs) (hS : eBkS c S) (na N : Nat) (f : Nat → Int32) (hN : 1 ≤ N) (hN2 : N < 1000) : eMetX l E yX0_done (ws_ yX0_done cX0_done 3 (some .int)) ({ frames := 12, cells := 2 + 17 * gM (f 0), slots := 14 + 88 * gM (f 0), locals := 240 }) [.ref c.a, .int 114, .ref na] [eMac E c, eIA E na N f, eSto S] (fun w Γ => ∃ r A2 c2 S2, gDone 114 c.abs f = .inr (r, A2) ∧ w = some (.int r) ∧ Γ = [eMac E c2, eIA E na N f, eSto S2] ∧ c2.abs = A2 ∧ c2.a = c.a ∧ eBkS c2 S2 ∧ ∀ z ∈ S, z ∈ S2) (fun q En Γ => ∃ code, gDone 114 c.abs f = .inl code ∧ En = RX6 ∧ ∃ r1 r2, Γ = [eRfB E q code r1 r2, eMac E c, eIA E na N f, eSto S]) := by
  refine eStartX (cc := cX0_done) (nL := 3) (L := [some (.ref c.a), some (.int 114), some (.ref na)]) hl (by decide) rfl (List.forall_mem_cons.mpr ⟨rfl, (List.forall_mem_cons.mpr ⟨rfl, (List.forall_mem_cons.mpr ⟨rfl, (fun _ h => absurd h List.not_mem_nil)⟩)⟩)⟩) (Nat.le_of_ble_eq_true rfl) ?_
  intro x rs C hT
  show eZ x E (eQX x E (fun w Γ => ∃ r A2 c2 S2, gDone 114 c.abs f = .inr (r, A2) ∧ w = some (.int r) ∧ Γ = [eMac E c2, eIA E na N f, eSto S2] ∧ c2.abs = A2 ∧ c2.a = c.a ∧ eBkS c2 S2 ∧ ∀ z ∈ S, z ∈ S2) (fun q En Γ => ∃ code, gDone 114 c.abs f = .inl code ∧ En = RX6 ∧ ∃ r1 r2, Γ = [eRfB E q code r1 r2, eMac E c, eIA E na N f, eSto S]) rs) [eMac E c, eIA E na N f, eSto S, rs] 0 [some (.ref c.a), some (.int 114), some (.ref na)] [] 0 0
  generalize hQ_ : eQX x E (fun w Γ => ∃ r A2 c2 S2, gDone 114 c.abs f = .inr (r, A2) ∧ w = some (.int r) ∧ Γ = [eMac E c2, eIA E na N f, eSto S2] ∧ c2.abs = A2 ∧ c2.a = c.a ∧ eBkS c2 S2 ∧ ∀ z ∈ S, z ∈ S2) (fun q En Γ => ∃ code, gDone 114 c.abs f = .inl code ∧ En = RX6 ∧ ∃ r1 r2, Γ = [eRfB E q code r1 r2, eMac E c, eIA E na N f, eSto S]) rs = Q_
  refine z_iload_n C dX0_done_0 rfl rfl ?_
  refine z_tabIn (off := 198) 199 C dX0_done_1 (by decide) (by decide) (by decide) (by decide) ?_
  refine z_aload_n C dX0_done_199 rfl rfl ?_
  refine z_aload_n C dX0_done_200 rfl rfl ?_
  refine z_iconst (v := 0) C dX0_done_201 (by decide) ?_
  refine z_iald (m := 0) (v := f 0) 1 C dX0_done_202 rfl rfl (by omega) (by omega) rfl ?_
  refine z_callVX (r := (RX1, TX1, 10)) (As := [.int (f 0)]) (rest := []) (Δ := [eIA E na N f, rs]) [0, 2] [1, 3] 1 (m_runs hl E c S hok hS (f 0)) C dX0_done_203 rfl rfl (eIn (i := 0) rfl eMac_mem) rfl rfl q1066 q1067 q1068 q50 q1069 (by decide +kernel) rfl (ePm 4 rfl (by decide +kernel)) rfl rfl ⟨Nat.le_of_ble_eq_true rfl, Nat.le_of_ble_eq_true rfl⟩ (Nat.le_trans eS0 (Nat.le_of_ble_eq_true rfl)) ⟨by first | omega | (dsimp only; omega), by first | omega | (dsimp only; omega)⟩ (fun q_ En_ Γ_ hx_ => ?_) (fun v_ Γ_ hp_ => ?_)
  · obtain ⟨code, he, rfl, r1, r2, rfl⟩ := hx_
    show eY x E _ [eRfB E q_ code r1 r2, eMac E c, eSto S, eIA E na N f, rs] 203 [some (.ref c.a), some (.int 114), some (.ref na)] [] q_ (0 + (2 + 17 * gM (f 0))) (0 + (14 + 88 * gM (f 0)))
    refine y_pick (Γ' := [eRfB E q_ code r1 r2, eMac E c, eIA E na N f, eSto S, rs]) [0, 1, 3, 2, 4] (ePm 5 rfl (by decide +kernel)) rfl ?_
    subst hQ_
    exact z_out (Γ := [eRfB E q_ code r1 r2, eMac E c, eIA E na N f, eSto S]) C hT (by decide) (eIn (i := 0) rfl List.mem_cons_self) (show eCl[6]? = some _ from rfl) (by (try dsimp only); omega) (by (try dsimp only); omega) ⟨code, he, rfl, r1, r2, rfl⟩
  obtain ⟨r, A2, c2, S2, he, rfl, rfl, ha, hca, hS2, hSS⟩ := hp_
  show eZ x E _ [eMac E c2, eSto S2, eIA E na N f, rs] 206 [some (.ref c.a), some (.int 114), some (.ref na)] [.int r] (0 + (2 + 17 * gM (f 0))) (0 + (14 + 88 * gM (f 0)))
  refine z_pick (Γ' := [eMac E c2, eIA E na N f, eSto S2, rs]) [0, 2, 1, 3] (ePm 4 rfl (by decide +kernel)) rfl ?_
  subst hQ_
  refine z_X ?_
  exact z_ret (Γ := [eMac E c2, eIA E na N f, eSto S2]) C dX0_done_206 rfl rfl (by (try dsimp only); omega) (by (try dsimp only); omega) ⟨r, A2, c2, S2, he, rfl, rfl, ha, hca, hS2, hSS⟩

set_option maxHeartbeats 4000000 in
theorem m_done_z {l : Launch} (hl : l.stackTraces = false) (E : eEn) (c : Cm) (S : List (Nat × Enr)) (hok : gOk c.abs) (hS : eBkS c S) (na N : Nat) (f : Nat → Int32) (hN : 2 ≤ N) (hN2 : N < 1000) : eMetX l E yX0_done (ws_ yX0_done cX0_done 3 (some .int)) ({ frames := 8, cells := 2, slots := 14, locals := 147 }) [.ref c.a, .int 122, .ref na] [eMac E c, eIA E na N f, eSto S] (fun w Γ => ∃ r A2 c2 S2, gDone 122 c.abs f = .inr (r, A2) ∧ w = some (.int r) ∧ Γ = [eMac E c2, eIA E na N f, eSto S2] ∧ c2.abs = A2 ∧ c2.a = c.a ∧ eBkS c2 S2 ∧ ∀ z ∈ S, z ∈ S2) (fun q En Γ => ∃ code, gDone 122 c.abs f = .inl code ∧ En = RX6 ∧ ∃ r1 r2, Γ = [eRfB E q code r1 r2, eMac E c, eIA E na N f, eSto S]) := by
  refine eStartX (cc := cX0_done) (nL := 3) (L := [some (.ref c.a), some (.int 122), some (.ref na)]) hl (by decide) rfl (List.forall_mem_cons.mpr ⟨rfl, (List.forall_mem_cons.mpr ⟨rfl, (List.forall_mem_cons.mpr ⟨rfl, (fun _ h => absurd h List.not_mem_nil)⟩)⟩)⟩) (Nat.le_of_ble_eq_true rfl) ?_
  intro x rs C hT
  show eZ x E (eQX x E (fun w Γ => ∃ r A2 c2 S2, gDone 122 c.abs f = .inr (r, A2) ∧ w = some (.int r) ∧ Γ = [eMac E c2, eIA E na N f, eSto S2] ∧ c2.abs = A2 ∧ c2.a = c.a ∧ eBkS c2 S2 ∧ ∀ z ∈ S, z ∈ S2) (fun q En Γ => ∃ code, gDone 122 c.abs f = .inl code ∧ En = RX6 ∧ ∃ r1 r2, Γ = [eRfB E q code r1 r2, eMac E c, eIA E na N f, eSto S]) rs) [eMac E c, eIA E na N f, eSto S, rs] 0 [some (.ref c.a), some (.int 122), some (.ref na)] [] 0 0
  generalize hQ_ : eQX x E (fun w Γ => ∃ r A2 c2 S2, gDone 122 c.abs f = .inr (r, A2) ∧ w = some (.int r) ∧ Γ = [eMac E c2, eIA E na N f, eSto S2] ∧ c2.abs = A2 ∧ c2.a = c.a ∧ eBkS c2 S2 ∧ ∀ z ∈ S, z ∈ S2) (fun q En Γ => ∃ code, gDone 122 c.abs f = .inl code ∧ En = RX6 ∧ ∃ r1 r2, Γ = [eRfB E q code r1 r2, eMac E c, eIA E na N f, eSto S]) rs = Q_
  refine z_iload_n C dX0_done_0 rfl rfl ?_
  refine z_tabOut 207 C dX0_done_1 (by decide) (by decide) ?_
  refine z_aload_n C dX0_done_207 rfl rfl ?_
  refine z_aload_n C dX0_done_208 rfl rfl ?_
  refine z_iconst (v := 0) C dX0_done_209 (by decide) ?_
  refine z_iald (m := 0) (v := f 0) 1 C dX0_done_210 rfl rfl (by omega) (by omega) rfl ?_
  refine z_aload_n C dX0_done_211 rfl rfl ?_
  refine z_iconst (v := 1) C dX0_done_212 (by decide) ?_
  refine z_iald (m := 1) (v := f 1) 1 C dX0_done_213 rfl rfl (by omega) (by omega) rfl ?_
  refine z_callVX (r := (RX1, TX1, 10)) (As := [.int (f 0), .int (f 1)]) (rest := []) (Δ := [eIA E na N f, eSto S, rs]) [0] [1, 2, 3] 2 (m_setsTo hl E c hok (f 0) (f 1)) C dX0_done_214 rfl rfl (eIn (i := 0) rfl eMac_mem) rfl rfl q1263 q1264 q1265 q50 q1266 (by decide +kernel) rfl (ePm 4 rfl (by decide +kernel)) rfl rfl ⟨Nat.le_of_ble_eq_true rfl, Nat.le_of_ble_eq_true rfl⟩ (Nat.le_trans eS0 (Nat.le_of_ble_eq_true rfl)) ⟨Nat.le_of_ble_eq_true rfl, Nat.le_of_ble_eq_true rfl⟩ (fun q_ En_ Γ_ hx_ => ?_) (fun v_ Γ_ hp_ => ?_)
  · obtain ⟨code, he, rfl, r1, r2, rfl⟩ := hx_
    show eY x E _ [eRfB E q_ code r1 r2, eMac E c, eIA E na N f, eSto S, rs] 214 [some (.ref c.a), some (.int 122), some (.ref na)] [] q_ 2 14
    refine y_pick (Γ' := [eRfB E q_ code r1 r2, eMac E c, eIA E na N f, eSto S, rs]) [0, 1, 2, 3, 4] (ePm 5 rfl (by decide +kernel)) rfl ?_
    subst hQ_
    exact z_out (Γ := [eRfB E q_ code r1 r2, eMac E c, eIA E na N f, eSto S]) C hT (by decide) (eIn (i := 0) rfl List.mem_cons_self) (show eCl[6]? = some _ from rfl) (Nat.le_of_ble_eq_true rfl) (Nat.le_of_ble_eq_true rfl) ⟨code, he, rfl, r1, r2, rfl⟩
  obtain ⟨r, A2, c2, he, rfl, rfl, ha, hca, hbk⟩ := hp_
  show eZ x E _ [eMac E c2, eIA E na N f, eSto S, rs] 217 [some (.ref c.a), some (.int 122), some (.ref na)] [.int r] 2 14
  refine z_pick (Γ' := [eMac E c2, eIA E na N f, eSto S, rs]) [0, 1, 2, 3] (ePm 4 rfl (by decide +kernel)) rfl ?_
  subst hQ_
  refine z_X ?_
  exact z_ret (Γ := [eMac E c2, eIA E na N f, eSto S]) C dX0_done_217 rfl rfl (Nat.le_of_ble_eq_true rfl) (Nat.le_of_ble_eq_true rfl) ⟨r, A2, c2, S, he, rfl, rfl, ha, hca, eBkS_of hS hbk, fun z h => h⟩
