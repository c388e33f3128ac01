/-! ===== the machine as one block; a tick ===== -/
set_option maxRecDepth 100000
abbrev Cl : Type := Nat × Nat × Int32 × Qz × Lv
abbrev Cl.a (g : Cl) : Nat := g.1
abbrev Cl.qa (g : Cl) : Nat := g.2.1
abbrev Cl.m (g : Cl) : Int32 := g.2.2.1
abbrev Cl.zs (g : Cl) : Qz := g.2.2.2.1
abbrev Cl.v (g : Cl) : Lv := g.2.2.2.2

abbrev lA (ls : List Cl) : List Nat := ls.map Cl.a
abbrev lV (ls : List Cl) : List (Lv × List Eg) := ls.map fun c => (c.v, qG c.zs)
def eLan (i : Nat) (c : Cl) : va_W := eLo c.a c.qa (nI i) c.v ++ eLL c.qa c.m (qX c.zs) ++ qE c.zs
def eLans : Nat → List Cl → va_W
  | _, [] => []
  | i, c :: cs => eLan i c ++ eLans (i + 1) cs
theorem eLans_cons (i : Nat) (c : Cl) (cs : List Cl) : eLans i (c :: cs) = eLan i c ++ eLans (i + 1) cs := rfl
theorem eLans_nil (i : Nat) : eLans i [] = [] := rfl
theorem eLans_app (i : Nat) (as bs : List Cl) : eLans i (as ++ bs) = eLans i as ++ eLans (i + as.length) bs := by
  induction as generalizing i with
  | nil => rfl
  | cons a as ih =>
    rw [List.cons_append, eLans_cons, eLans_cons, ih, List.length_cons, List.append_assoc, show i + 1 + as.length = i + (as.length + 1) by omega]
theorem eLans_snoc (as : List Cl) (c : Cl) : eLans 0 (as ++ [c]) = eLans 0 as ++ eLan as.length c := by
  rw [eLans_app, eLans_cons, eLans_nil, List.append_nil, Nat.zero_add]
theorem eLans_at {ls : List Cl} {i : Nat} {c : Cl} (h : ls[i]? = some c) : eLans 0 ls = eLans 0 (ls.take i) ++ eLan i c ++ eLans (i + 1) (ls.drop (i + 1)) := by
  obtain ⟨h1, h2⟩ := List.getElem?_eq_some_iff.mp h
  conv => lhs; rw [← List.take_append_drop i ls, List.drop_eq_getElem_cons h1, h2]
  rw [eLans_app, eLans_cons, List.length_take, Nat.min_eq_left (Nat.le_of_lt h1), Nat.zero_add, List.append_assoc]
theorem eLans_set {ls : List Cl} {i : Nat} {c : Cl} (h : i < ls.length) : eLans 0 (ls.set i c) = eLans 0 (ls.take i) ++ eLan i c ++ eLans (i + 1) (ls.drop (i + 1)) := by
  rw [eLans_at (ls := ls.set i c) (i := i) (c := c) (by simp [h])]
  rw [List.take_set_of_le (Nat.le_refl i), List.drop_set_of_lt (Nat.lt_succ_self i)]
abbrev Cm : Type := Nat × Nat × Nat × Int32 × List Cl × Nat × Nat × Int32 × Kz × Nat × Int32 × Bz × Nat × (Nat → Int32) × Mv
abbrev Cm.a (g : Cm) : Nat := g.1
abbrev Cm.la (g : Cm) : Nat := g.2.1
abbrev Cm.lq (g : Cm) : Nat := g.2.2.1
abbrev Cm.lm (g : Cm) : Int32 := g.2.2.2.1
abbrev Cm.lns (g : Cm) : List Cl := g.2.2.2.2.1
abbrev Cm.ca (g : Cm) : Nat := g.2.2.2.2.2.1
abbrev Cm.cq (g : Cm) : Nat := g.2.2.2.2.2.2.1
abbrev Cm.cm (g : Cm) : Int32 := g.2.2.2.2.2.2.2.1
abbrev Cm.crs (g : Cm) : Kz := g.2.2.2.2.2.2.2.2.1
abbrev Cm.ba (g : Cm) : Nat := g.2.2.2.2.2.2.2.2.2.1
abbrev Cm.bm (g : Cm) : Int32 := g.2.2.2.2.2.2.2.2.2.2.1
abbrev Cm.bk (g : Cm) : Bz := g.2.2.2.2.2.2.2.2.2.2.2.1
abbrev Cm.sa (g : Cm) : Nat := g.2.2.2.2.2.2.2.2.2.2.2.2.1
abbrev Cm.st (g : Cm) : Nat → Int32 := g.2.2.2.2.2.2.2.2.2.2.2.2.2.1
abbrev Cm.u (g : Cm) : Mv := g.2.2.2.2.2.2.2.2.2.2.2.2.2.2

def eMac (E : eEn) (c : Cm) : va_W := eMo c.a c.la c.ca c.ba c.sa c.u ++ (eAL E c.la c.lq c.lm (lA c.lns) ++ (eLans 0 c.lns ++ (eAL E c.ca c.cq c.cm (kA c.crs) ++ (eCrs c.crs ++ (eLL c.ba c.bm (bX c.bk) ++ eIA E c.sa 4 c.st)))))
theorem eMac_mem {E : eEn} {c : Cm} : (c.a, (.inr (1, [.ref c.la, .ref c.ca, .ref c.ba, .ref c.sa, .int c.u.tk, .int c.u.cm, .int c.u.dk, .int c.u.co, .int c.u.wt, .int c.u.lk]) : va_E)) ∈ eMac E c := List.mem_cons_self
/-! the machine without addresses -/
abbrev Am : Type := List (Lv × List Eg) × List Cr × List Enr × (Nat → Int32) × Mv
abbrev Am.ls (g : Am) : List (Lv × List Eg) := g.1
abbrev Am.cs (g : Am) : List Cr := g.2.1
abbrev Am.bs (g : Am) : List Enr := g.2.2.1
abbrev Am.st (g : Am) : Nat → Int32 := g.2.2.2.1
abbrev Am.u (g : Am) : Mv := g.2.2.2.2

def Cm.abs (c : Cm) : Am := (lV c.lns, c.crs.map Prod.snd, c.bk.map Prod.snd, c.st, c.u)
/-- the lanes one behind another, from place i -/
def gTk (st : Nat → Int32) : List (Lv × List Eg) → Nat → Int32 → List (Lv × List Eg) → List Cr → List Enr → Mv → Int32 × List (Lv × List Eg) × List Cr × List Enr × Mv
  | [], _, n, d, cs, bs, u => (n, d, cs, bs, u)
  | l :: ls, i, n, d, cs, bs, u => gTk st ls (i + 1) (n + (gStep st (nI i) l.1 l.2 cs bs u).1) (d ++ [((gStep st (nI i) l.1 l.2 cs bs u).2.1, (gStep st (nI i) l.1 l.2 cs bs u).2.2.1)]) (gStep st (nI i) l.1 l.2 cs bs u).2.2.2.1 (gStep st (nI i) l.1 l.2 cs bs u).2.2.2.2.1 (gStep st (nI i) l.1 l.2 cs bs u).2.2.2.2.2
def gTkU (u : Mv) : Mv := (u.tk + 1, u.cm, u.dk, u.co, u.wt, u.lk)
def gTick (A : Am) : Int32 × Am :=
  ((gTk A.st A.ls 0 0 [] A.cs A.bs A.u).1, (gTk A.st A.ls 0 0 [] A.cs A.bs A.u).2.1, (gTk A.st A.ls 0 0 [] A.cs A.bs A.u).2.2.1, (gTk A.st A.ls 0 0 [] A.cs A.bs A.u).2.2.2.1, A.st, gTkU (gTk A.st A.ls 0 0 [] A.cs A.bs A.u).2.2.2.2)
/-- the sizes of a machine -/
def gOk (A : Am) : Prop := A.ls.length = 4 ∧ (∀ l ∈ A.ls, l.2.length ≤ 8) ∧ A.cs.length = 6 ∧ A.bs.length ≤ 10 ∧ A.st 0 = nI (nN (A.st 0)) ∧ nN (A.st 0) ≤ 100
def eBkS (c : Cm) (S : List (Nat × Enr)) : Prop := ∀ z ∈ c.bk, (z.1.2, z.2) ∈ S
theorem gStep_bs (st : Nat → Int32) (nu : Int32) (v : Lv) (gs : List Eg) (cs : List Cr) (bs : List Enr) (u : Mv) (h : bs.length ≤ 10) : (gStep st nu v gs cs bs u).2.2.2.2.1.length ≤ 10 := by
  have hb : ∀ e : Enr, (gBook e bs).length ≤ 10 := fun e => by rw [gBook, List.length_take]; omega
  cases gs with
  | nil => exact h
  | cons g gs =>
    rw [gStep]
    split
    · exact hb _
    · split
      · split
        · exact h
        · exact hb _
      · exact hb _
theorem gStep_gs (st : Nat → Int32) (nu : Int32) (v : Lv) (gs : List Eg) (cs : List Cr) (bs : List Enr) (u : Mv) : (gStep st nu v gs cs bs u).2.2.1.length ≤ gs.length := by
  cases gs with
  | nil => exact Nat.le_refl _
  | cons g gs =>
    rw [gStep]
    split
    · exact Nat.le_succ _
    · split
      · split
        · simp
        · exact Nat.le_succ _
      · exact Nat.le_succ _
theorem gStep_cs (st : Nat → Int32) (nu : Int32) (v : Lv) (gs : List Eg) (cs : List Cr) (bs : List Enr) (u : Mv) : (gStep st nu v gs cs bs u).2.2.2.1.length = cs.length := by
  cases gs with
  | nil => rfl
  | cons g gs =>
    rw [gStep]
    split
    · exact List.length_set
    · split
      · split <;> rfl
      · rfl
theorem gTk_ok (st : Nat → Int32) (ls : List (Lv × List Eg)) (i : Nat) (n : Int32) (d : List (Lv × List Eg)) (cs : List Cr) (bs : List Enr) (u : Mv) (hl : ∀ l ∈ ls, l.2.length ≤ 8) (hd : ∀ l ∈ d, l.2.length ≤ 8) (hb : bs.length ≤ 10) :
    (gTk st ls i n d cs bs u).2.1.length = d.length + ls.length ∧ (∀ l ∈ (gTk st ls i n d cs bs u).2.1, l.2.length ≤ 8) ∧ (gTk st ls i n d cs bs u).2.2.1.length = cs.length ∧ (gTk st ls i n d cs bs u).2.2.2.1.length ≤ 10 := by
  induction ls generalizing i n d cs bs u with
  | nil => exact ⟨rfl, hd, rfl, hb⟩
  | cons l ls ih =>
    have h1 := gStep_gs st (nI i) l.1 l.2 cs bs u
    have h2 := gStep_bs st (nI i) l.1 l.2 cs bs u hb
    have h3 := gStep_cs st (nI i) l.1 l.2 cs bs u
    have h4 := hl l List.mem_cons_self
    obtain ⟨k1, k2, k3, k4⟩ := ih (i + 1) (n + (gStep st (nI i) l.1 l.2 cs bs u).1) (d ++ [((gStep st (nI i) l.1 l.2 cs bs u).2.1, (gStep st (nI i) l.1 l.2 cs bs u).2.2.1)]) (gStep st (nI i) l.1 l.2 cs bs u).2.2.2.1 (gStep st (nI i) l.1 l.2 cs bs u).2.2.2.2.1 (gStep st (nI i) l.1 l.2 cs bs u).2.2.2.2.2
      (fun q hq => hl q (List.mem_cons_of_mem _ hq)) (fun q hq => by
        rcases List.mem_append.mp hq with h | h
        · exact hd q h
        · rw [List.mem_singleton.mp h]; exact Nat.le_trans h1 h4) h2
    refine ⟨?_, k2, ?_, k4⟩
    · rw [gTk, k1, List.length_append, List.length_cons, List.length_cons, List.length_nil]; omega
    · rw [gTk, k3, h3]
theorem gTick_ok {A : Am} (h : gOk A) : gOk (gTick A).2 := by
  obtain ⟨h1, h2, h3, h4, h5, h6⟩ := h
  obtain ⟨k1, k2, k3, k4⟩ := gTk_ok A.st A.ls 0 0 [] A.cs A.bs A.u h2 (fun _ h => absurd h List.not_mem_nil) h4
  exact ⟨by show (gTk A.st A.ls 0 0 [] A.cs A.bs A.u).2.1.length = 4; rw [k1]; simpa using h1, k2, by show (gTk A.st A.ls 0 0 [] A.cs A.bs A.u).2.2.1.length = 6; rw [k3]; exact h3, k4, h5, h6⟩
theorem eMac_cut {E : eEn} {c : Cm} : eMac E c = [eMo c.a c.la c.ca c.ba c.sa c.u, eAL E c.la c.lq c.lm (lA c.lns), eLans 0 c.lns, eAL E c.ca c.cq c.cm (kA c.crs), eCrs c.crs, eLL c.ba c.bm (bX c.bk), eIA E c.sa 4 c.st].flatten := by simp [eMac]
theorem eLan_cut {i : Nat} {c : Cl} : eLan i c = [eLo c.a c.qa (nI i) c.v, eLL c.qa c.m (qX c.zs), qE c.zs].flatten := by simp [eLan]

set_option maxHeartbeats 4000000 in
theorem m_tick {l : Launch} (hl : l.stackTraces = false) (E : eEn) (c : Cm) (S : List (Nat × Enr)) (hok : gOk c.abs) (hS : eBkS c S) : eMet l E yX1_tick (ws_ yX1_tick cX1_tick 4 (some .int)) ({ frames := 10, cells := 17, slots := 88, locals := 194 }) [.ref c.a] [eMac E c, eSto S] (fun w Γ => ∃ c2 S2, w = some (.int (gTick c.abs).1) ∧ Γ = [eMac E c2, eSto S2] ∧ c2.abs = (gTick c.abs).2 ∧ c2.a = c.a ∧ eBkS c2 S2 ∧ ∀ z ∈ S, z ∈ S2) := by
  refine eStart (cc := cX1_tick) (nL := 4) (L := [some (.ref c.a), none, none, none]) hl (by decide) rfl (List.forall_mem_cons.mpr ⟨rfl, (fun _ h => absurd h List.not_mem_nil)⟩) (Nat.le_of_ble_eq_true rfl) ?_
  intro x rs C
  show eZ x E (eQ x E (fun w Γ => ∃ c2 S2, w = some (.int (gTick c.abs).1) ∧ Γ = [eMac E c2, eSto S2] ∧ c2.abs = (gTick c.abs).2 ∧ c2.a = c.a ∧ eBkS c2 S2 ∧ ∀ z ∈ S, z ∈ S2) rs) [eMac E c, eSto S, rs] 0 [some (.ref c.a), none, none, none] [] 0 0
  generalize hQ_ : eQ x E (fun w Γ => ∃ c2 S2, w = some (.int (gTick c.abs).1) ∧ Γ = [eMac E c2, eSto S2] ∧ c2.abs = (gTick c.abs).2 ∧ c2.a = c.a ∧ eBkS c2 S2 ∧ ∀ z ∈ S, z ∈ S2) rs = Q_
  obtain ⟨hk1, hk2, hk3, hk4, hk5, hk6⟩ := hok
  have hl4 : c.lns.length = 4 := by have h : (lV c.lns).length = 4 := hk1; rw [List.length_map] at h; exact h
  have hl8 : ∀ l ∈ c.lns, l.zs.length ≤ 8 := fun l hl => by have h : (qG l.zs).length ≤ 8 := hk2 _ (List.mem_map.mpr ⟨l, hl, rfl⟩); rw [List.length_map] at h; exact h
  have hc6 : c.crs.length = 6 := by have h : (c.crs.map Prod.snd).length = 6 := hk3; rw [List.length_map] at h; exact h
  have hb10 : c.bk.length ≤ 10 := by have h : (c.bk.map Prod.snd).length ≤ 10 := hk4; rw [List.length_map] at h; exact h
  have hla : (lA c.lns).length ≤ 10 := by rw [List.length_map]; omega
  have hka : (kA c.crs).length ≤ 10 := by rw [List.length_map]; omega
  refine z_cut 0 (bs := [eO c.a 1 [.ref c.la, .ref c.ca, .ref c.ba, .ref c.sa, .int c.u.tk, .int c.u.cm, .int c.u.dk, .int c.u.co, .int c.u.wt, .int c.u.lk], eAL E c.la c.lq c.lm (lA c.lns), eLans 0 c.lns, eAL E c.ca c.cq c.cm (kA c.crs), eCrs c.crs, eLL c.ba c.bm (bX c.bk), eIA E c.sa 4 c.st]) rfl eMac_cut rfl ?_
  show eZ x E _ [eO c.a 1 [.ref c.la, .ref c.ca, .ref c.ba, .ref c.sa, .int c.u.tk, .int c.u.cm, .int c.u.dk, .int c.u.co, .int c.u.wt, .int c.u.lk], eAL E c.la c.lq c.lm (lA c.lns), eLans 0 c.lns, eAL E c.ca c.cq c.cm (kA c.crs), eCrs c.crs, eLL c.ba c.bm (bX c.bk), eIA E c.sa 4 c.st, eSto S, rs] 0 [some (.ref c.a), none, none, none] [] 0 0
  refine z_iconst (v := 0) C dX1_tick_0 (by decide) ?_
  refine z_istore_n (L2 := [some (.ref c.a), some (.int 0), none, none]) C dX1_tick_1 rfl (Nat.le_of_ble_eq_true rfl) rfl ?_
  refine z_aload_n C dX1_tick_2 rfl rfl ?_
  refine z_get eK1 0 0 C dX1_tick_3 rfl rfl q307 (eSame1 rfl) (by decide) rfl ?_
  refine z_callV (r := (RJ2, TJ2, 3)) (As := []) (rest := []) (Δ := [eO c.a 1 [.ref c.la, .ref c.ca, .ref c.ba, .ref c.sa, .int c.u.tk, .int c.u.cm, .int c.u.dk, .int c.u.co, .int c.u.wt, .int c.u.lk], eLans 0 c.lns, eAL E c.ca c.cq c.cm (kA c.crs), eCrs c.crs, eLL c.ba c.bm (bX c.bk), eIA E c.sa 4 c.st, eSto S, rs]) [1] [0, 2, 3, 4, 5, 6, 7, 8] 0 (m_AL_iterator hl E c.la c.lq c.lm (lA c.lns) hla) C dX1_tick_6 rfl rfl (eIn (i := 1) rfl eAL_mem) rfl rfl q429 q430 q431 q53 q432 (by decide +kernel) rfl (ePm 9 rfl (by decide +kernel)) rfl rfl ⟨Nat.le_of_ble_eq_true rfl, Nat.le_of_ble_eq_true rfl⟩ (Nat.le_trans eS0 (Nat.le_of_ble_eq_true rfl)) ⟨Nat.le_of_ble_eq_true rfl, Nat.le_of_ble_eq_true rfl⟩ (fun v_ Γ_ hp_ => ?_)
  obtain ⟨it1, rfl, rfl⟩ := hp_
  show eZ x E _ [eO it1 16 [.int 0, .int (-1), .int c.lm, .ref c.la], eAL E c.la c.lq c.lm (lA c.lns), eO c.a 1 [.ref c.la, .ref c.ca, .ref c.ba, .ref c.sa, .int c.u.tk, .int c.u.cm, .int c.u.dk, .int c.u.co, .int c.u.wt, .int c.u.lk], eLans 0 c.lns, eAL E c.ca c.cq c.cm (kA c.crs), eCrs c.crs, eLL c.ba c.bm (bX c.bk), eIA E c.sa 4 c.st, eSto S, rs] 9 [some (.ref c.a), some (.int 0), none, none] [.ref it1] 1 4
  refine z_astore_n (L2 := [some (.ref c.a), some (.int 0), some (.ref it1), none]) C dX1_tick_9 rfl (Nat.le_of_ble_eq_true rfl) rfl ?_
  refine z_pick (Γ' := [eO it1 16 [.int 0, .int (-1), .int c.lm, .ref c.la], eAL E c.la c.lq c.lm (lA c.lns), eO c.a 1 [.ref c.la, .ref c.ca, .ref c.ba, .ref c.sa, .int c.u.tk, .int c.u.cm, .int c.u.dk, .int c.u.co, .int c.u.wt, .int c.u.lk], eIA E c.sa 4 c.st, eLans 0 c.lns, eAL E c.ca c.cq c.cm (kA c.crs), eCrs c.crs, eLL c.ba c.bm (bX c.bk), eSto S, rs]) [0, 1, 2, 7, 3, 4, 5, 6, 8, 9] (ePm 10 rfl (by decide +kernel)) rfl ?_
  generalize has0 : lA c.lns = as0 at hla ⊢
  generalize hks0 : kA c.crs = ks0 at hka ⊢
  have K : ∀ (ts ds : List Cl) (n lr : Int32) (cs : Kz) (bm : Int32) (bk : Bz) (u : Mv) (S1 : List (Nat × Enr)), ds.length + ts.length = 4 → lA ds ++ lA ts = as0 → (∀ l ∈ ts, l.zs.length ≤ 8) → kA cs = ks0 → cs.length = 6 → bk.length ≤ 10 → (∀ z ∈ bk, (z.1.2, z.2) ∈ S1) → (∀ z ∈ S, z ∈ S1) → gTk c.st (lV ts) ds.length n (lV ds) (cs.map Prod.snd) (bk.map Prod.snd) u = gTk c.st (lV c.lns) 0 0 [] (c.crs.map Prod.snd) (c.bk.map Prod.snd) c.u → eZ x E Q_ [eO it1 16 [.int (nI ds.length), .int lr, .int c.lm, .ref c.la], eAL E c.la c.lq c.lm as0, eO c.a 1 [.ref c.la, .ref c.ca, .ref c.ba, .ref c.sa, .int u.tk, .int u.cm, .int u.dk, .int u.co, .int u.wt, .int u.lk], eIA E c.sa 4 c.st, eLans 0 ds, eLans ds.length ts, eAL E c.ca c.cq c.cm ks0, eCrs cs, eLL c.ba bm (bX bk), eSto S1, rs] 10 [some (.ref c.a), some (.int n), some (.ref it1), none] [] (0 + 1 + 4 * ds.length) (0 + 4 + 21 * ds.length) := by
    intro ts
    induction ts with
    | nil =>
        intro ds n lr cs bm bk u S1 hdl hda ht8 hcs hc6 hb10 hbS hSS hR
        have hdc : ds.length ≤ as0.length := by rw [← hda, List.length_append, List.length_map]; omega
        refine z_aload_n C dX1_tick_10 rfl rfl ?_
        refine z_callF (r := (RJ13, TJ13, 4)) (As := []) (rest := []) (Δ := [eO c.a 1 [.ref c.la, .ref c.ca, .ref c.ba, .ref c.sa, .int u.tk, .int u.cm, .int u.dk, .int u.co, .int u.wt, .int u.lk], eIA E c.sa 4 c.st, eLans 0 ds, eLans ds.length [], eAL E c.ca c.cq c.cm ks0, eCrs cs, eLL c.ba bm (bX bk), eSto S1, rs]) [0, 1] [2, 3, 4, 5, 6, 7, 8, 9, 10] 0 (m_AItr_hasNext hl E it1 c.la c.lq c.lm lr as0 hla ds.length hdc) C dX1_tick_11 rfl rfl (eIn (i := 0) rfl List.mem_cons_self) rfl rfl C.2.2.2.2.2.2.2.1.2.2.2.2.1.1 q455 q476 q474 q68 q478 (by decide +kernel) rfl (ePm 11 rfl (by decide +kernel)) rfl rfl ⟨Nat.le_of_ble_eq_true rfl, Nat.le_of_ble_eq_true rfl⟩ (Nat.le_trans eS0 (Nat.le_of_ble_eq_true rfl)) ⟨by first | omega | (dsimp only; omega), by first | omega | (dsimp only; omega)⟩ (fun v_ Γ_ hp_ => ?_)
        obtain ⟨rfl, rfl⟩ := hp_
        show eZ x E _ [eO it1 16 [.int (nI ds.length), .int lr, .int c.lm, .ref c.la], eAL E c.la c.lq c.lm as0, eO c.a 1 [.ref c.la, .ref c.ca, .ref c.ba, .ref c.sa, .int u.tk, .int u.cm, .int u.dk, .int u.co, .int u.wt, .int u.lk], eIA E c.sa 4 c.st, eLans 0 ds, eLans ds.length [], eAL E c.ca c.cq c.cm ks0, eCrs cs, eLL c.ba bm (bX bk), eSto S1, rs] 16 [some (.ref c.a), some (.int n), some (.ref it1), none] [.int (eB (decide (ds.length < as0.length)))] (0 + 1 + 4 * ds.length) (0 + 4 + 21 * ds.length)
        refine z_if_eq_B 40 C dX1_tick_16 (by decide) (fun h1 => ?_) (fun h1 => ?_)
        · refine z_aload_n C dX1_tick_40 rfl rfl ?_
          refine z_dup C dX1_tick_41 rfl ?_
          refine z_get eK1 2 4 C dX1_tick_42 rfl rfl q315 (eSame1 rfl) (by decide) rfl ?_
          refine z_iconst (v := 1) C dX1_tick_45 (by decide) ?_
          refine z_iadd (w := u.tk + 1) C dX1_tick_46 rfl ?_
          refine z_put eK1 2 4 (Γ2 := [eO it1 16 [.int (nI ds.length), .int lr, .int c.lm, .ref c.la], eAL E c.la c.lq c.lm as0, eO c.a 1 [.ref c.la, .ref c.ca, .ref c.ba, .ref c.sa, .int (u.tk + 1), .int u.cm, .int u.dk, .int u.co, .int u.wt, .int u.lk], eIA E c.sa 4 c.st, eLans 0 ds, eLans ds.length [], eAL E c.ca c.cq c.cm ks0, eCrs cs, eLL c.ba bm (bX bk), eSto S1, rs]) C dX1_tick_47 rfl rfl q315 (eSame1 rfl) (by decide) rfl rfl rfl rfl (Nat.le_of_ble_eq_true rfl) rfl ?_
          refine z_iload_n C dX1_tick_50 rfl rfl ?_
          have hd4 : ds.length = 4 := by simpa using hdl
          refine z_wide (k' := 17) (n' := 88) (by omega) (by omega) ?_
          subst hks0
          have hda2 : lA ds = as0 := by rw [← hda]; simp
          subst hda2
          show eZ x E _ [eO it1 16 [.int (nI ds.length), .int lr, .int c.lm, .ref c.la], eAL E c.la c.lq c.lm (lA ds), eO c.a 1 [.ref c.la, .ref c.ca, .ref c.ba, .ref c.sa, .int (u.tk + 1), .int u.cm, .int u.dk, .int u.co, .int u.wt, .int u.lk], eIA E c.sa 4 c.st, eLans 0 ds, eLans ds.length [], eAL E c.ca c.cq c.cm (kA c.crs), eCrs cs, eLL c.ba bm (bX bk), eSto S1, rs] 51 [some (.ref c.a), some (.int n), some (.ref it1), none] [.int n] 17 88
          refine z_pick (Γ' := [eO c.a 1 [.ref c.la, .ref c.ca, .ref c.ba, .ref c.sa, .int (u.tk + 1), .int u.cm, .int u.dk, .int u.co, .int u.wt, .int u.lk], eAL E c.la c.lq c.lm (lA ds), eLans 0 ds, eAL E c.ca c.cq c.cm (kA c.crs), eCrs cs, eLL c.ba bm (bX bk), eIA E c.sa 4 c.st, eO it1 16 [.int (nI ds.length), .int lr, .int c.lm, .ref c.la], eLans ds.length [], eSto S1, rs]) [2, 1, 4, 6, 7, 8, 3, 0, 5, 9, 10] (ePm 11 rfl (by decide +kernel)) rfl ?_
          refine z_join 7 (b := eMac E (c.a, c.la, c.lq, c.lm, ds, c.ca, c.cq, c.cm, cs, c.ba, bm, bk, c.sa, c.st, gTkU u)) (by rw [eMac_cut]; simp only [List.take]; rw [← hcs]; rfl) rfl ?_
          show eZ x E _ [eMac E (c.a, c.la, c.lq, c.lm, ds, c.ca, c.cq, c.cm, cs, c.ba, bm, bk, c.sa, c.st, gTkU u), eO it1 16 [.int (nI ds.length), .int lr, .int c.lm, .ref c.la], eLans ds.length [], eSto S1, rs] 51 [some (.ref c.a), some (.int n), some (.ref it1), none] [.int n] 17 88
          refine z_pick (Γ' := [eO it1 16 [.int (nI ds.length), .int lr, .int c.lm, .ref c.la], eLans ds.length [], eMac E (c.a, c.la, c.lq, c.lm, ds, c.ca, c.cq, c.cm, cs, c.ba, bm, bk, c.sa, c.st, gTkU u), eSto S1, rs]) [1, 2, 0, 3, 4] (ePm 5 rfl (by decide +kernel)) rfl ?_
          refine z_drop ?_
          refine z_drop ?_
          show eZ x E _ [eMac E (c.a, c.la, c.lq, c.lm, ds, c.ca, c.cq, c.cm, cs, c.ba, bm, bk, c.sa, c.st, gTkU u), eSto S1, rs] 51 [some (.ref c.a), some (.int n), some (.ref it1), none] [.int n] 17 88
          subst hQ_
          exact z_ret (Γ := [eMac E (c.a, c.la, c.lq, c.lm, ds, c.ca, c.cq, c.cm, cs, c.ba, bm, bk, c.sa, c.st, gTkU u), eSto S1]) C dX1_tick_51 rfl rfl (Nat.le_refl _) (Nat.le_refl _) ⟨(c.a, c.la, c.lq, c.lm, ds, c.ca, c.cq, c.cm, cs, c.ba, bm, bk, c.sa, c.st, gTkU u), S1, by rw [gTick]; show some (Value.int n) = some (Value.int (gTk c.st (lV c.lns) 0 0 [] (c.crs.map Prod.snd) (c.bk.map Prod.snd) c.u).1); rw [← hR]; rfl, rfl, by rw [gTick]; show ((lV ds, cs.map Prod.snd, bk.map Prod.snd, c.st, gTkU u) : Am) = ((gTk c.st (lV c.lns) 0 0 [] (c.crs.map Prod.snd) (c.bk.map Prod.snd) c.u).2.1, (gTk c.st (lV c.lns) 0 0 [] (c.crs.map Prod.snd) (c.bk.map Prod.snd) c.u).2.2.1, (gTk c.st (lV c.lns) 0 0 [] (c.crs.map Prod.snd) (c.bk.map Prod.snd) c.u).2.2.2.1, c.st, gTkU (gTk c.st (lV c.lns) 0 0 [] (c.crs.map Prod.snd) (c.bk.map Prod.snd) c.u).2.2.2.2); rw [← hR]; rfl, rfl, hbS, hSS⟩
        · exact absurd (of_decide_eq_true h1) (by rw [← hda, List.length_append, List.length_map]; simp)
    | cons l ts ih =>
        intro ds n lr cs bm bk u S1 hdl hda ht8 hcs hc6 hb10 hbS hSS hR
        have hdc : ds.length ≤ as0.length := by rw [← hda, List.length_append, List.length_map]; omega
        rw [List.length_cons] at hdl
        have hl8 := ht8 l List.mem_cons_self
        have hat : as0[ds.length]? = some l.a := by rw [← hda, List.getElem?_append_right (by rw [List.length_map]; exact Nat.le_refl _), List.length_map]; simp
        refine z_aload_n C dX1_tick_10 rfl rfl ?_
        refine z_callF (r := (RJ13, TJ13, 4)) (As := []) (rest := []) (Δ := [eO c.a 1 [.ref c.la, .ref c.ca, .ref c.ba, .ref c.sa, .int u.tk, .int u.cm, .int u.dk, .int u.co, .int u.wt, .int u.lk], eIA E c.sa 4 c.st, eLans 0 ds, eLans ds.length (l :: ts), eAL E c.ca c.cq c.cm ks0, eCrs cs, eLL c.ba bm (bX bk), eSto S1, rs]) [0, 1] [2, 3, 4, 5, 6, 7, 8, 9, 10] 0 (m_AItr_hasNext hl E it1 c.la c.lq c.lm lr as0 hla ds.length hdc) C dX1_tick_11 rfl rfl (eIn (i := 0) rfl List.mem_cons_self) rfl rfl C.2.2.2.2.2.2.2.1.2.2.2.2.1.1 q455 q476 q474 q68 q478 (by decide +kernel) rfl (ePm 11 rfl (by decide +kernel)) rfl rfl ⟨Nat.le_of_ble_eq_true rfl, Nat.le_of_ble_eq_true rfl⟩ (Nat.le_trans eS0 (Nat.le_of_ble_eq_true rfl)) ⟨by first | omega | (dsimp only; omega), by first | omega | (dsimp only; omega)⟩ (fun v_ Γ_ hp_ => ?_)
        obtain ⟨rfl, rfl⟩ := hp_
        show eZ x E _ [eO it1 16 [.int (nI ds.length), .int lr, .int c.lm, .ref c.la], eAL E c.la c.lq c.lm as0, eO c.a 1 [.ref c.la, .ref c.ca, .ref c.ba, .ref c.sa, .int u.tk, .int u.cm, .int u.dk, .int u.co, .int u.wt, .int u.lk], eIA E c.sa 4 c.st, eLans 0 ds, eLans ds.length (l :: ts), eAL E c.ca c.cq c.cm ks0, eCrs cs, eLL c.ba bm (bX bk), eSto S1, rs] 16 [some (.ref c.a), some (.int n), some (.ref it1), none] [.int (eB (decide (ds.length < as0.length)))] (0 + 1 + 4 * ds.length) (0 + 4 + 21 * ds.length)
        refine z_if_eq_B 40 C dX1_tick_16 (by decide) (fun h1 => ?_) (fun h1 => ?_)
        · exact absurd (of_decide_eq_false h1) (fun h => h (by rw [← hda, List.length_append, List.length_map, List.length_map, List.length_cons]; omega))
        · refine z_aload_n C dX1_tick_19 rfl rfl ?_
          refine z_callF (r := (RJ13, TJ13, 4)) (As := []) (rest := []) (Δ := [eO c.a 1 [.ref c.la, .ref c.ca, .ref c.ba, .ref c.sa, .int u.tk, .int u.cm, .int u.dk, .int u.co, .int u.wt, .int u.lk], eIA E c.sa 4 c.st, eLans 0 ds, eLans ds.length (l :: ts), eAL E c.ca c.cq c.cm ks0, eCrs cs, eLL c.ba bm (bX bk), eSto S1, rs]) [0, 1] [2, 3, 4, 5, 6, 7, 8, 9, 10] 0 (m_AItr_next hl E it1 c.la c.lq c.lm lr as0 hla ds.length l.a hat) C dX1_tick_20 rfl rfl (eIn (i := 0) rfl List.mem_cons_self) rfl rfl C.2.2.2.2.2.2.2.1.2.2.2.2.1.2.1 q489 q797 q795 q68 q799 (by decide +kernel) rfl (ePm 11 rfl (by decide +kernel)) rfl rfl ⟨Nat.le_of_ble_eq_true rfl, Nat.le_of_ble_eq_true rfl⟩ (Nat.le_trans eS0 (Nat.le_of_ble_eq_true rfl)) ⟨by first | omega | (dsimp only; omega), by first | omega | (dsimp only; omega)⟩ (fun v_ Γ_ hp_ => ?_)
          obtain ⟨rfl, rfl⟩ := hp_
          show eZ x E _ [eO it1 16 [.int (nI (ds.length + 1)), .int (nI ds.length), .int c.lm, .ref c.la], eAL E c.la c.lq c.lm as0, eO c.a 1 [.ref c.la, .ref c.ca, .ref c.ba, .ref c.sa, .int u.tk, .int u.cm, .int u.dk, .int u.co, .int u.wt, .int u.lk], eIA E c.sa 4 c.st, eLans 0 ds, eLans ds.length (l :: ts), eAL E c.ca c.cq c.cm ks0, eCrs cs, eLL c.ba bm (bX bk), eSto S1, rs] 25 [some (.ref c.a), some (.int n), some (.ref it1), none] [.ref l.a] (0 + 1 + 4 * ds.length) (0 + 4 + 21 * ds.length)
          refine z_cut 5 (bs := [eO l.a 2 [.int (nI ds.length), .ref l.qa, .int l.v.li, .int l.v.tu, .int l.v.st, .int l.v.gd, .int l.v.ck], eLL l.qa l.m (qX l.zs), qE l.zs, eLans (ds.length + 1) ts]) rfl (by rw [eLans_cons, eLan_cut]; simp) rfl ?_
          show eZ x E _ [eO it1 16 [.int (nI (ds.length + 1)), .int (nI ds.length), .int c.lm, .ref c.la], eAL E c.la c.lq c.lm as0, eO c.a 1 [.ref c.la, .ref c.ca, .ref c.ba, .ref c.sa, .int u.tk, .int u.cm, .int u.dk, .int u.co, .int u.wt, .int u.lk], eIA E c.sa 4 c.st, eLans 0 ds, eO l.a 2 [.int (nI ds.length), .ref l.qa, .int l.v.li, .int l.v.tu, .int l.v.st, .int l.v.gd, .int l.v.ck], eLL l.qa l.m (qX l.zs), qE l.zs, eLans (ds.length + 1) ts, eAL E c.ca c.cq c.cm ks0, eCrs cs, eLL c.ba bm (bX bk), eSto S1, rs] 25 [some (.ref c.a), some (.int n), some (.ref it1), none] [.ref l.a] (0 + 1 + 4 * ds.length) (0 + 4 + 21 * ds.length)
          refine z_castE C dX1_tick_25 (eIn (i := 5) rfl List.mem_cons_self) (show eCl[2]? = some _ from rfl) rfl q162 ?_
          refine z_astore_n (L2 := [some (.ref c.a), some (.int n), some (.ref it1), some (.ref l.a)]) C dX1_tick_28 rfl (Nat.le_of_ble_eq_true rfl) rfl ?_
          refine z_iload_n C dX1_tick_29 rfl rfl ?_
          refine z_aload_n C dX1_tick_30 rfl rfl ?_
          refine z_aload_n C dX1_tick_31 rfl rfl ?_
          subst hcs
          show eZ x E _ [eO it1 16 [.int (nI (ds.length + 1)), .int (nI ds.length), .int c.lm, .ref c.la], eAL E c.la c.lq c.lm as0, eO c.a 1 [.ref c.la, .ref c.ca, .ref c.ba, .ref c.sa, .int u.tk, .int u.cm, .int u.dk, .int u.co, .int u.wt, .int u.lk], eIA E c.sa 4 c.st, eLans 0 ds, eO l.a 2 [.int (nI ds.length), .ref l.qa, .int l.v.li, .int l.v.tu, .int l.v.st, .int l.v.gd, .int l.v.ck], eLL l.qa l.m (qX l.zs), qE l.zs, eLans (ds.length + 1) ts, eAL E c.ca c.cq c.cm (kA cs), eCrs cs, eLL c.ba bm (bX bk), eSto S1, rs] 32 [some (.ref c.a), some (.int n), some (.ref it1), some (.ref l.a)] [.ref l.a, .ref c.a, .int n] (0 + 1 + 4 * ds.length) (0 + 4 + 21 * ds.length)
          refine z_callWX (r := (RX1, TX1, 10)) (As := [.ref l.a]) (rest := [.int n]) (Δ := [eO it1 16 [.int (nI (ds.length + 1)), .int (nI ds.length), .int c.lm, .ref c.la], eAL E c.la c.lq c.lm as0, eLans 0 ds, eLans (ds.length + 1) ts, rs]) [2, 3, 5, 6, 7, 9, 10, 11, 12] [0, 1, 4, 8, 13] 1 (m_grades hl E c.a c.la c.ca c.ba c.sa u c.st hk5 hk6 l.a l.qa (nI ds.length) l.v l.m l.zs hl8 c.cq c.cm cs hc6 bm bk hb10 S1 hbS) C dX1_tick_32 rfl rfl (eIn (i := 2) rfl List.mem_cons_self) rfl rfl q1075 q1077 qs10 q50 q1078 (by decide +kernel) rfl (ePm 14 rfl (by decide +kernel)) rfl rfl ⟨Nat.le_of_ble_eq_true rfl, Nat.le_of_ble_eq_true rfl⟩ (Nat.le_trans (eSm rfl eS0) (Nat.le_of_ble_eq_true rfl)) ⟨by first | omega | (dsimp only; omega), by first | omega | (dsimp only; omega)⟩ (fun _ _ _ h => h.elim) (fun v_ Γ_ hp_ => ?_)
          obtain ⟨r, v2, m2, zs2, cs2, bm2, bk2, u2, S2, rfl, rfl, heq, hk2_, hbS2, hSS2⟩ := hp_
          show eZ x E _ [eO c.a 1 [.ref c.la, .ref c.ca, .ref c.ba, .ref c.sa, .int u2.tk, .int u2.cm, .int u2.dk, .int u2.co, .int u2.wt, .int u2.lk], eIA E c.sa 4 c.st, eO l.a 2 [.int (nI ds.length), .ref l.qa, .int v2.li, .int v2.tu, .int v2.st, .int v2.gd, .int v2.ck], eLL l.qa m2 (qX zs2), qE zs2, eAL E c.ca c.cq c.cm (kA cs), eCrs cs2, eLL c.ba bm2 (bX bk2), eSto S2, eO it1 16 [.int (nI (ds.length + 1)), .int (nI ds.length), .int c.lm, .ref c.la], eAL E c.la c.lq c.lm as0, eLans 0 ds, eLans (ds.length + 1) ts, rs] 35 [some (.ref c.a), some (.int n), some (.ref it1), some (.ref l.a)] [.int r, .int n] ((0 + 1 + 4 * ds.length) + 4) ((0 + 4 + 21 * ds.length) + 21)
          refine z_iadd (w := n + r) C dX1_tick_35 rfl ?_
          refine z_istore_n (L2 := [some (.ref c.a), some (.int (n + r)), some (.ref it1), some (.ref l.a)]) C dX1_tick_36 rfl (Nat.le_of_ble_eq_true rfl) rfl ?_
          refine z_goto 10 C dX1_tick_37 (by decide) ?_
          refine z_pick (Γ' := [eLans 0 ds, eO l.a 2 [.int (nI ds.length), .ref l.qa, .int v2.li, .int v2.tu, .int v2.st, .int v2.gd, .int v2.ck], eLL l.qa m2 (qX zs2), qE zs2, eO c.a 1 [.ref c.la, .ref c.ca, .ref c.ba, .ref c.sa, .int u2.tk, .int u2.cm, .int u2.dk, .int u2.co, .int u2.wt, .int u2.lk], eIA E c.sa 4 c.st, eAL E c.ca c.cq c.cm (kA cs), eCrs cs2, eLL c.ba bm2 (bX bk2), eSto S2, eO it1 16 [.int (nI (ds.length + 1)), .int (nI ds.length), .int c.lm, .ref c.la], eAL E c.la c.lq c.lm as0, eLans (ds.length + 1) ts, rs]) [11, 2, 3, 4, 0, 1, 5, 6, 7, 8, 9, 10, 12, 13] (ePm 14 rfl (by decide +kernel)) rfl ?_
          refine z_join 4 (b := eLans 0 (ds ++ [(l.a, l.qa, m2, zs2, v2)])) (by rw [eLans_snoc, eLan_cut]; simp) rfl ?_
          show eZ x E _ [eLans 0 (ds ++ [(l.a, l.qa, m2, zs2, v2)]), eO c.a 1 [.ref c.la, .ref c.ca, .ref c.ba, .ref c.sa, .int u2.tk, .int u2.cm, .int u2.dk, .int u2.co, .int u2.wt, .int u2.lk], eIA E c.sa 4 c.st, eAL E c.ca c.cq c.cm (kA cs), eCrs cs2, eLL c.ba bm2 (bX bk2), eSto S2, eO it1 16 [.int (nI (ds.length + 1)), .int (nI ds.length), .int c.lm, .ref c.la], eAL E c.la c.lq c.lm as0, eLans (ds.length + 1) ts, rs] 10 [some (.ref c.a), some (.int (n + r)), some (.ref it1), some (.ref l.a)] [] ((0 + 1 + 4 * ds.length) + 4) ((0 + 4 + 21 * ds.length) + 21)
          refine z_pick (Γ' := [eO it1 16 [.int (nI (ds.length + 1)), .int (nI ds.length), .int c.lm, .ref c.la], eAL E c.la c.lq c.lm as0, eO c.a 1 [.ref c.la, .ref c.ca, .ref c.ba, .ref c.sa, .int u2.tk, .int u2.cm, .int u2.dk, .int u2.co, .int u2.wt, .int u2.lk], eIA E c.sa 4 c.st, eLans 0 (ds ++ [(l.a, l.qa, m2, zs2, v2)]), eLans (ds.length + 1) ts, eAL E c.ca c.cq c.cm (kA cs), eCrs cs2, eLL c.ba bm2 (bX bk2), eSto S2, rs]) [7, 8, 1, 2, 0, 9, 3, 4, 5, 6, 10] (ePm 11 rfl (by decide +kernel)) rfl ?_
          refine z_forget (L' := [some (.ref c.a), some (.int (n + r)), some (.ref it1), none]) ⟨Or.inr rfl, Or.inr rfl, Or.inr rfl, Or.inl rfl, trivial⟩ ?_
          have hdl2 : (ds ++ [(l.a, l.qa, m2, zs2, v2)]).length = ds.length + 1 := by rw [List.length_append]; rfl
          refine z_go (Γ' := [eO it1 16 [.int (nI (ds ++ [(l.a, l.qa, m2, zs2, v2)]).length), .int (nI ds.length), .int c.lm, .ref c.la], eAL E c.la c.lq c.lm as0, eO c.a 1 [.ref c.la, .ref c.ca, .ref c.ba, .ref c.sa, .int u2.tk, .int u2.cm, .int u2.dk, .int u2.co, .int u2.wt, .int u2.lk], eIA E c.sa 4 c.st, eLans 0 (ds ++ [(l.a, l.qa, m2, zs2, v2)]), eLans (ds ++ [(l.a, l.qa, m2, zs2, v2)]).length ts, eAL E c.ca c.cq c.cm (kA cs), eCrs cs2, eLL c.ba bm2 (bX bk2), eSto S2, rs]) (by rw [hdl2]) ?_
          refine z_wide (k' := 0 + 1 + 4 * (ds ++ [(l.a, l.qa, m2, zs2, v2)]).length) (n' := 0 + 4 + 21 * (ds ++ [(l.a, l.qa, m2, zs2, v2)]).length) (by rw [hdl2]; omega) (by rw [hdl2]; omega) ?_
          have hs : (gStep c.st (nI ds.length) l.v (qG l.zs) (cs.map Prod.snd) (bk.map Prod.snd) u) = (r, v2, qG zs2, cs2.map Prod.snd, bk2.map Prod.snd, u2) := heq.symm
          have hb2 : bk2.length ≤ 10 := by have h := gStep_bs c.st (nI ds.length) l.v (qG l.zs) (cs.map Prod.snd) (bk.map Prod.snd) u (by rw [List.length_map]; exact hb10); rw [hs] at h; have h2 : (bk2.map Prod.snd).length ≤ 10 := h; rw [List.length_map] at h2; exact h2
          have hc2 : cs2.length = 6 := by have h := congrArg List.length hk2_; rw [List.length_map, List.length_map] at h; omega
          exact ih (ds ++ [(l.a, l.qa, m2, zs2, v2)]) (n + r) (nI ds.length) cs2 bm2 bk2 u2 S2 (by rw [hdl2]; omega) (by rw [← hda]; simp) (fun q hq => ht8 q (List.mem_cons_of_mem _ hq)) hk2_ hc2 hb2 hbS2 (fun z hz => hSS2 z (hSS z hz)) (by rw [← hR, hdl2]; show _ = gTk c.st ((l.v, qG l.zs) :: lV ts) ds.length n (lV ds) (cs.map Prod.snd) (bk.map Prod.snd) u; rw [gTk, hs]; simp [lV])
  exact z_eq (Γ' := [eO it1 16 [.int (nI ([] : List Cl).length), .int (-1), .int c.lm, .ref c.la], eAL E c.la c.lq c.lm as0, eO c.a 1 [.ref c.la, .ref c.ca, .ref c.ba, .ref c.sa, .int c.u.tk, .int c.u.cm, .int c.u.dk, .int c.u.co, .int c.u.wt, .int c.u.lk], eIA E c.sa 4 c.st, eLans 0 ([] : List Cl), eLans ([] : List Cl).length c.lns, eAL E c.ca c.cq c.cm ks0, eCrs c.crs, eLL c.ba c.bm (bX c.bk), eSto S, rs]) (by simp [eLans_nil, show nI 0 = 0 from rfl]) (K c.lns [] 0 (-1) c.crs c.bm c.bk c.u S (by simpa using hl4) has0 hl8 hks0 hc6 hb10 hS (fun z h => h) rfl)
