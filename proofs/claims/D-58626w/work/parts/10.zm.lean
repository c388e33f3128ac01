/-! ===== Z: rows of the heap ===== -/
set_option maxRecDepth 100000
abbrev eIA (E : eEn) (a n : Nat) (f : Nat → Int32) : va_W := [(a, .inl (E.2.1 0, n, .inl f))]
abbrev eBA (E : eEn) (a n : Nat) (f : Nat → Int32) : va_W := [(a, .inl (E.2.1 2, n, .inl f))]
abbrev eQA (E : eEn) (a n : Nat) (f : Nat → Option Nat) : va_W := [(a, .inl (E.2.1 1, n, .inr (.inr (.inr (.inr f)))))]
abbrev eO (a ci : Nat) (fs : List Value) : va_W := [(a, .inr (ci, fs))]
theorem e_fitR (C : String) (r : Option Nat) : fits (.object C) (va_rf r) = true := by cases r <;> rfl
theorem e_narR (C : String) (r : Option Nat) : narrow (.object C) (va_rf r) = va_rf r := by cases r <;> rfl
theorem e_catR (r : Option Nat) : (va_rf r).category = 1 := by cases r <;> rfl
section ZM
variable {x : eCx} {E : eEn} {l : Launch} {Q : State → Prop} {Γ Γ2 : List va_W} {pc : Nat} {L L2 : List (Option Value)} {rest : List Value} {k n : Nat} {y : MethodName} {cc : ByteArray} {nL : Nat} {rt : Option FieldType} {rm : Room}
theorem eSame1 {T : u_T} {j : Nat} {ref : String} (h : (T j).1 = ref) : ∀ z, (eSt x).fieldFound? (T j).1 (T j).2.1 (T j).2.2.1 = some z → (eSt x).fieldFound? ref (T j).2.1 (T j).2.2.1 = some z := fun _ q => h ▸ q
theorem eSame2 (C : eOk x E l y cc nL rt rm) {T : u_T} {j : Nat} {ref : String} (q : Cond.sameField ref (T j).1 (T j).2.1 (T j).2.2.1 ∈ lw_all) : ∀ z, (eSt x).fieldFound? (T j).1 (T j).2.1 (T j).2.2.1 = some z → (eSt x).fieldFound? ref (T j).2.1 (T j).2.2.1 = some z := u_same (C.2.2.2.2.1 _ q)
theorem z_get {ci N a idx : Nat} {Cn own ref : String} {T : u_T} {ty : Nat → FieldType} {fs : List Value} {v : Value} (K : eCls ci Cn T N ty) (i j : Nat) (C : eOk x E l y cc nL rt rm) (d : decode cc pc = .ok (.getfield idx, 3)) (hΓ : Γ[i]? = some (eO a ci fs)) (ho : y.cls = own) (q : Cond.fieldLink own idx ref (T j).2.1 (T j).2.2.1 ∈ lw_all) (hs : ∀ z, (eSt x).fieldFound? (T j).1 (T j).2.1 (T j).2.2.1 = some z → (eSt x).fieldFound? ref (T j).2.1 (T j).2.2.1 = some z) (hj : j < N) (hv : fs[j]? = some v)
    (kk : eZ x E Q Γ (pc + 3) L (v :: rest) k n) : eZ x E Q Γ pc L (.ref a :: rest) k n := by
  intro H locs ls hP hD hS hl
  obtain ⟨i0, h1, -⟩ := eBlk hΓ
  exact va_get C.1 C.2.1 C.2.2.2.2.1 K.2.1 (own := own) (ho ▸ C.2.2.2.1) C.2.2.2.2.2.2.2.1.1 hP.1 i0 h1 K.1 j hj (C.2.2.2.2.1 _ q) hs hv d (kk H locs ls hP hD hS hl)
theorem z_getN {ci N a idx : Nat} {Cn own ref host : String} {T : u_T} {ty : Nat → FieldType} {fs : List Value} {v : Value} (K : eCls ci Cn T N ty) (i j : Nat) (C : eOk x E l y cc nL rt rm) (d : decode cc pc = .ok (.getfield idx, 3)) (hΓ : Γ[i]? = some (eO a ci fs)) (ho : y.cls = own) (q : Cond.fieldLinkNest own idx ref (T j).2.1 (T j).2.2.1 host ∈ lw_tbl) (hs : ∀ z, (eSt x).fieldFound? (T j).1 (T j).2.1 (T j).2.2.1 = some z → (eSt x).fieldFound? ref (T j).2.1 (T j).2.2.1 = some z) (hj : j < N) (hv : fs[j]? = some v)
    (kk : eZ x E Q Γ (pc + 3) L (v :: rest) k n) : eZ x E Q Γ pc L (.ref a :: rest) k n := by
  intro H locs ls hP hD hS hl
  obtain ⟨i0, h1, -⟩ := eBlk hΓ
  exact va_getN C.1 C.2.1 C.2.2.2.2.1 K.2.1 (own := own) (ho ▸ C.2.2.2.1) C.2.2.2.2.2.2.2.1.1 hP.1 i0 h1 K.1 j hj (va_Nw.use rfl (C.2.2.2.2.2.2.2.1.2.2.1 _ (eNw_in q rfl))) hs hv d (kk H locs ls hP hD hS hl)
theorem z_put {ci N a idx : Nat} {Cn own ref : String} {T : u_T} {ty : Nat → FieldType} {fs : List Value} {v : Value} {t0 : FieldType} (K : eCls ci Cn T N ty) (i j : Nat) (C : eOk x E l y cc nL rt rm) (d : decode cc pc = .ok (.putfield idx, 3)) (hΓ : Γ[i]? = some (eO a ci fs)) (ho : y.cls = own) (q : Cond.fieldLink own idx ref (T j).2.1 (T j).2.2.1 ∈ lw_all) (hs : ∀ z, (eSt x).fieldFound? (T j).1 (T j).2.1 (T j).2.2.1 = some z → (eSt x).fieldFound? ref (T j).2.1 (T j).2.2.1 = some z) (hj : j < N) (hfin : (T j).2.2.2 = false) (ht : ty j = t0) (hn : narrow t0 v = v) (hf : fits t0 v = true) (hl0 : j < fs.length) (hG : Γ.set i (eO a ci (fs.set j v)) = Γ2)
    (kk : eZ x E Q Γ2 (pc + 3) L rest k n) : eZ x E Q Γ pc L (v :: .ref a :: rest) k n := by
  intro H locs ls hP hD hS hl
  obtain ⟨i0, h1, h2⟩ := eBlk hΓ
  subst hG ht
  have hts := C.2.2.2.2.1
  have hK := C.2.2.2.2.2.2.2.1.1
  have hap := va_apart (own := own) hts K.2.1 ty K.2.2.1 K.2.2.2 hK K.1
  obtain ⟨r, g1, cell, q1, q2, q3, q4⟩ := hP.1 i0 _ h1
  have hr : r = (Cn, T, N) := Option.some.inj (g1.symm.trans K.1)
  subst hr
  obtain ⟨hSl, hfc, kC, hkC, hkind⟩ := hK.1 ci _ K.1
  obtain ⟨cf, kf, fi, f, hi2, hsl⟩ := hSl j hj
  have hlay := hts _ (K.2.1 _ (u_in_lay hj))
  have hm0 := eFr.mon q1 (hP.2 _ (List.mem_of_getElem? h1))
  have hst := (u_facts hfc hkC (u_lays hts K.2.1 hj) hi2).1
  unfold u_lay at hlay
  rw [if_neg (by rw [hfin]; decide)] at hlay
  have h6 := u_store hfc hkC hkind hlay hi2 (K.2.2.1 j hj) hn hf
  refine W.putK C.1 C.2.1 (f := f) ⟨ho ▸ C.2.2.2.1, C.2.2.2.2.1 _ q, ⟨_, _, _, hs _ hi2⟩, hst⟩ (by rw [q2]; exact h6) q1 q3 (by rw [hsl]; exact k2_hasslot (q4 j hj)) rfl rfl d fun H' e1 e2 e3 => ?_
  rw [hsl] at e1 ⊢
  have hP1 := eP_set (E := E) (e := .inr (ci, fs.set j v)) hP hD h1 ⟨_, K.1, t_OB.to (V := updV (vp_V fs) j v) ⟨_, e1, q2, q3, t_set q4 hap hj v⟩ (fun z _ => vp_updV_set hl0 v z)⟩ (eFr.of e1 hm0.1 hm0.2) e3
  have hD1 := hD.set (e := .inr (ci, fs.set j v)) h1
  rw [← h2] at hP1 hD1
  exact kk H' _ ls hP1 hD1 (hS.put e2 e3 (hD.2 i0 _ h1)) hl
theorem z_putN {ci N a idx : Nat} {Cn own ref host : String} {T : u_T} {ty : Nat → FieldType} {fs : List Value} {v : Value} {t0 : FieldType} (K : eCls ci Cn T N ty) (i j : Nat) (C : eOk x E l y cc nL rt rm) (d : decode cc pc = .ok (.putfield idx, 3)) (hΓ : Γ[i]? = some (eO a ci fs)) (ho : y.cls = own) (q : Cond.fieldLinkNest own idx ref (T j).2.1 (T j).2.2.1 host ∈ lw_tbl) (hs : ∀ z, (eSt x).fieldFound? (T j).1 (T j).2.1 (T j).2.2.1 = some z → (eSt x).fieldFound? ref (T j).2.1 (T j).2.2.1 = some z) (hj : j < N) (hfin : (T j).2.2.2 = false) (ht : ty j = t0) (hn : narrow t0 v = v) (hf : fits t0 v = true) (hl0 : j < fs.length) (hG : Γ.set i (eO a ci (fs.set j v)) = Γ2)
    (kk : eZ x E Q Γ2 (pc + 3) L rest k n) : eZ x E Q Γ pc L (v :: .ref a :: rest) k n := by
  intro H locs ls hP hD hS hl
  obtain ⟨i0, h1, h2⟩ := eBlk hΓ
  subst hG ht
  have hts := C.2.2.2.2.1
  have hK := C.2.2.2.2.2.2.2.1.1
  have hap := va_apart (own := own) hts K.2.1 ty K.2.2.1 K.2.2.2 hK K.1
  obtain ⟨r, g1, cell, q1, q2, q3, q4⟩ := hP.1 i0 _ h1
  have hr : r = (Cn, T, N) := Option.some.inj (g1.symm.trans K.1)
  subst hr
  obtain ⟨hSl, hfc, kC, hkC, hkind⟩ := hK.1 ci _ K.1
  obtain ⟨cf, kf, fi, f, hi2, hsl⟩ := hSl j hj
  have hlay := hts _ (K.2.1 _ (u_in_lay hj))
  have hm0 := eFr.mon q1 (hP.2 _ (List.mem_of_getElem? h1))
  have hst := (u_facts hfc hkC (u_lays hts K.2.1 hj) hi2).1
  unfold u_lay at hlay
  rw [if_neg (by rw [hfin]; decide)] at hlay
  have h6 := u_store hfc hkC hkind hlay hi2 (K.2.2.1 j hj) hn hf
  refine va_WputK C.1 C.2.1 (f := f) (own := own) (ho ▸ C.2.2.2.1) (va_Nw.use rfl (C.2.2.2.2.2.2.2.1.2.2.1 _ (eNw_in q rfl))) (hs _ hi2) hst (by rw [q2]; exact h6) q1 q3 (by rw [hsl]; exact k2_hasslot (q4 j hj)) rfl rfl d fun H' e1 e2 e3 => ?_
  rw [hsl] at e1 ⊢
  have hP1 := eP_set (E := E) (e := .inr (ci, fs.set j v)) hP hD h1 ⟨_, K.1, t_OB.to (V := updV (vp_V fs) j v) ⟨_, e1, q2, q3, t_set q4 hap hj v⟩ (fun z _ => vp_updV_set hl0 v z)⟩ (eFr.of e1 hm0.1 hm0.2) e3
  have hD1 := hD.set (e := .inr (ci, fs.set j v)) h1
  rw [← h2] at hP1 hD1
  exact kk H' _ ls hP1 hD1 (hS.put e2 e3 (hD.2 i0 _ h1)) hl
theorem z_putF {ci N a idx : Nat} {Cn own ref : String} {T : u_T} {ty : Nat → FieldType} {fs : List Value} {v : Value} {t0 : FieldType} (K : eCls ci Cn T N ty) (i j : Nat) (C : eOk x E l y cc nL rt rm) (d : decode cc pc = .ok (.putfield idx, 3)) (hΓ : Γ[i]? = some (eO a ci fs)) (ho : y.cls = own) (q : Cond.fieldLink own idx ref (T j).2.1 (T j).2.2.1 ∈ lw_all) (hs : ∀ z, (eSt x).fieldFound? (T j).1 (T j).2.1 (T j).2.2.1 = some z → (eSt x).fieldFound? ref (T j).2.1 (T j).2.2.1 = some z) (hj : j < N) (hfin : (T j).2.2.2 = true) (hi : y.name = "<init>") (hdc : (T j).1 = own) (ht : ty j = t0) (hn : narrow t0 v = v) (hf : fits t0 v = true) (hl0 : j < fs.length) (hG : Γ.set i (eO a ci (fs.set j v)) = Γ2)
    (kk : eZ x E Q Γ2 (pc + 3) L rest k n) : eZ x E Q Γ pc L (v :: .ref a :: rest) k n := by
  intro H locs ls hP hD hS hl
  obtain ⟨i0, h1, h2⟩ := eBlk hΓ
  subst hG ht
  have hts := C.2.2.2.2.1
  have hK := C.2.2.2.2.2.2.2.1.1
  have hap := va_apart (own := own) hts K.2.1 ty K.2.2.1 K.2.2.2 hK K.1
  obtain ⟨r, g1, cell, q1, q2, q3, q4⟩ := hP.1 i0 _ h1
  have hr : r = (Cn, T, N) := Option.some.inj (g1.symm.trans K.1)
  subst hr
  obtain ⟨hSl, hfc, kC, hkC, hkind⟩ := hK.1 ci _ K.1
  obtain ⟨cf, kf, fi, f, hi2, hsl⟩ := hSl j hj
  have hlay := hts _ (K.2.1 _ (u_in_lay hj))
  have hm0 := eFr.mon q1 (hP.2 _ (List.mem_of_getElem? h1))
  have hst := (u_facts hfc hkC (u_lays hts K.2.1 hj) hi2).1
  unfold u_lay at hlay
  rw [if_pos hfin] at hlay
  have hcf : (eMi x).cls = cf := by
    obtain ⟨_, _, c', _, _, _, -, -, hf', -, -, -, hown2, -⟩ := Cond.laysFinal_spec hlay
    have e1 : c' = cf := by have := hi2.symm.trans hf'; simp at this; exact this.1.symm
    rw [hdc, ← ho] at hown2
    rw [← e1]; exact Option.some.inj (C.2.2.2.1.symm.trans hown2)
  have h6 := u_fits hfc hkC hkind (Or.inr hlay) hi2 (K.2.2.1 j hj) hn hf
  refine W.putFinK C.1 C.2.1 (own := own) (ho ▸ C.2.2.2.1) (C.2.2.2.2.1 _ q) (hs _ hi2) hst hcf (by rw [C.2.2.2.2.2.2.2.2.2.2.2]; exact hi) (by rw [q2]; exact h6) q1 q3 (by rw [hsl]; exact k2_hasslot (q4 j hj)) rfl rfl d fun H' e1 e2 e3 => ?_
  rw [hsl] at e1 ⊢
  have hP1 := eP_set (E := E) (e := .inr (ci, fs.set j v)) hP hD h1 ⟨_, K.1, t_OB.to (V := updV (vp_V fs) j v) ⟨_, e1, q2, q3, t_set q4 hap hj v⟩ (fun z _ => vp_updV_set hl0 v z)⟩ (eFr.of e1 hm0.1 hm0.2) e3
  have hD1 := hD.set (e := .inr (ci, fs.set j v)) h1
  rw [← h2] at hP1 hD1
  exact kk H' _ ls hP1 hD1 (hS.put e2 e3 (hD.2 i0 _ h1)) hl
theorem z_new {ci N idx : Nat} {Cn own : String} {T : u_T} {ty : Nat → FieldType} {fs : List Value} (K : eCls ci Cn T N ty) (C : eOk x E l y cc nL rt rm) (d : decode cc pc = .ok (.new idx, 3)) (ho : y.cls = own) (q1 : Cond.classLink own idx Cn ∈ lw_all) (q2 : Cond.instantiable Cn N ∈ lw_all) (q3 : Cond.initialized Cn ∈ lw_all) (hfs : (List.range N).map (fun j => defaultValue (ty j)) = fs) (h1 : k + 1 ≤ rm.cells) (h2 : n + N ≤ rm.slots)
    (kk : ∀ q : Nat, eZ x E Q (Γ ++ [eO q ci fs]) (pc + 3) L (.ref q :: rest) (k + 1) (n + N)) : eZ x E Q Γ pc L rest k n := by
  intro H locs ls hP hD hS hl
  have hR := C.2.2.2.2.2.2.2.2.1
  have hK := C.2.2.2.2.2.2.2.1.1
  have hKn := hK.1 ci _ K.1
  refine W.newcK C.1 C.2.1 (own := own) (ho ▸ C.2.2.2.1) (C.2.2.2.2.1 _ q1) (C.2.2.2.2.1 _ q2) (C.2.2.2.2.1 _ q3) rfl d (by show _ ≤ (eRo x).cells; rw [hR]; exact h1) (by show _ ≤ (eRo x).slots; rw [hR]; exact h2) hKn.2.1 rfl fun H1 kC hkC e1 z1 o1 => ?_
  have hfs' : ∀ j, j < N → defaultValue (ty j) = vp_V fs j := fun j hj => by subst hfs; simp [vp_V, hj]
  have hP1 := eP_push (E := E) (e := .inr (ci, fs)) hP rfl ⟨_, K.1, (u_born ty C.2.2.2.2.1 K.2.1 hKn hkC e1 K.2.2.1).to hfs'⟩ (eFr.of e1 rfl rfl) o1
  have hD1 := hD.push (e := .inr (ci, fs)) hP.1 rfl (C.2.2.2.2.2.2.2.1.2.1 _ hS.1)
  rw [show Γ.flatten ++ [(H.size, (.inr (ci, fs) : va_E))] = (Γ ++ [eO H.size ci fs]).flatten by simp] at hP1 hD1
  exact kk H.size H1 locs ls hP1 hD1 ⟨Nat.le_trans hS.1 (by omega), fun z g1 g2 => (o1 z (Nat.lt_of_lt_of_le g1 hS.1)).trans (hS.2.1 z g1 g2), hS.2.2⟩ hl
theorem eIn_at {f : Nat → Int32} {m N : Nat} (h : m < N) (hN : N < 2 ^ 31) {j : Int32} (hj : j = nI m) : vp_in j N ∧ j.toNatClampNeg = m := by
  subst hj
  exact ⟨vp_in_nI h hN, nI_clamp (by omega)⟩
theorem z_iald {a N m : Nat} {f : Nat → Int32} {j v : Int32} (i : Nat) (C : eOk x E l y cc nL rt rm) (d : decode cc pc = .ok (.iaload, 1)) (hΓ : Γ[i]? = some (eIA E a N f)) (hj : j = nI m) (hm : m < N) (hN : N < 2 ^ 31) (hv : f m = v)
    (kk : eZ x E Q Γ (pc + 1) L (.int v :: rest) k n) : eZ x E Q Γ pc L (.int j :: .ref a :: rest) k n := by
  intro H locs ls hP hD hS hl
  obtain ⟨i0, h1, -⟩ := eBlk hΓ
  obtain ⟨e1, e2⟩ := eIn_at (f := f) hm hN hj
  refine va_iald C.1 C.2.1 C.2.2.2.2.2.2.2.1.1 hP.1 i0 0 h1 rfl e1 d ?_
  rw [e2, hv]
  exact kk H locs ls hP hD hS hl
theorem z_iast {a N m : Nat} {f : Nat → Int32} {j v : Int32} (i : Nat) (C : eOk x E l y cc nL rt rm) (d : decode cc pc = .ok (.iastore, 1)) (hΓ : Γ[i]? = some (eIA E a N f)) (hj : j = nI m) (hm : m < N) (hN : N < 2 ^ 31) (hG : Γ.set i (eIA E a N (upd f m v)) = Γ2)
    (kk : eZ x E Q Γ2 (pc + 1) L rest k n) : eZ x E Q Γ pc L (.int v :: .int j :: .ref a :: rest) k n := by
  intro H locs ls hP hD hS hl
  obtain ⟨i0, h1, h2⟩ := eBlk hΓ
  obtain ⟨g1, g2⟩ := eIn_at (f := fun _ => 0) hm hN hj
  have hK := C.2.2.2.2.2.2.2.1.1
  subst hG
  refine W.iast C.1 C.2.1 (hP.1 i0 _ h1) ((hK.2 0 _ rfl).1 N (fun j => .int (f j))) (fun q => by cases q) (by show ¬ (j < 0 ∨ (arrV _ _ _).slots.size ≤ _); rw [arrV_size]; exact g1) rfl rfl d fun H1 e z oq => ?_
  have e1 : H1[a]? = some (vp_cell (E.2.1 0) (N, .inl (upd f m v))) := by
    rw [e, g2]
    rw [vp_cell_i, vp_cell_i, arrV_store]
    congr 2
    funext q
    by_cases hq : q = m
    · subst hq
      simp [updV, upd]
    · simp [updV, upd, hq]
  have hP1 := eP_set (E := E) (e := .inl (E.2.1 0, N, .inl (upd f m v))) hP hD h1 e1 (eFr.of e1 rfl rfl) oq
  have hD1 := hD.set (e := .inl (E.2.1 0, N, .inl (upd f m v))) h1
  rw [← h2] at hP1 hD1
  exact kk H1 _ ls hP1 hD1 (hS.put z oq (hD.2 i0 _ h1)) hl
theorem z_bald {a N m : Nat} {f : Nat → Int32} {j v : Int32} (i : Nat) (C : eOk x E l y cc nL rt rm) (d : decode cc pc = .ok (.baload, 1)) (hΓ : Γ[i]? = some (eBA E a N f)) (hj : j = nI m) (hm : m < N) (hN : N < 2 ^ 31) (hv : f m = v)
    (kk : eZ x E Q Γ (pc + 1) L (.int v :: rest) k n) : eZ x E Q Γ pc L (.int j :: .ref a :: rest) k n := by
  intro H locs ls hP hD hS hl
  obtain ⟨i0, h1, -⟩ := eBlk hΓ
  obtain ⟨e1, e2⟩ := eIn_at (f := f) hm hN hj
  refine va_bald C.1 C.2.1 C.2.2.2.2.2.2.2.1.1 hP.1 i0 2 h1 rfl e1 d ?_
  rw [e2, hv]
  exact kk H locs ls hP hD hS hl
theorem z_bast {a N m : Nat} {f : Nat → Int32} {j v w : Int32} (i : Nat) (C : eOk x E l y cc nL rt rm) (d : decode cc pc = .ok (.bastore, 1)) (hΓ : Γ[i]? = some (eBA E a N f)) (hj : j = nI m) (hm : m < N) (hN : N < 2 ^ 31) (hw : vp_nar .byte v = w) (hG : Γ.set i (eBA E a N (upd f m w)) = Γ2)
    (kk : eZ x E Q Γ2 (pc + 1) L rest k n) : eZ x E Q Γ pc L (.int v :: .int j :: .ref a :: rest) k n := by
  intro H locs ls hP hD hS hl
  obtain ⟨i0, h1, h2⟩ := eBlk hΓ
  obtain ⟨g1, g2⟩ := eIn_at (f := fun _ => 0) hm hN hj
  have hK := C.2.2.2.2.2.2.2.1.1
  subst hG hw
  refine W.bast C.1 C.2.1 (hP.1 i0 _ h1) ((hK.2 2 _ rfl).1 N (fun j => .int (f j))) (fun q => by cases q) (by show ¬ (j < 0 ∨ (arrV _ _ _).slots.size ≤ _); rw [arrV_size]; exact g1) rfl rfl d fun H1 e z oq => ?_
  have e1 : H1[a]? = some (vp_cell (E.2.1 2) (N, .inl (upd f m (vp_nar .byte v)))) := by
    rw [e, g2]
    rw [vp_cell_i, vp_cell_i, arrV_store]
    congr 2
    funext q
    by_cases hq : q = m
    · subst hq
      simp [updV, upd, vp_nar_byte, narrow]
    · simp [updV, upd, hq]
  have hP1 := eP_set (E := E) (e := .inl (E.2.1 2, N, .inl (upd f m (vp_nar .byte v)))) hP hD h1 e1 (eFr.of e1 rfl rfl) oq
  have hD1 := hD.set (e := .inl (E.2.1 2, N, .inl (upd f m (vp_nar .byte v)))) h1
  rw [← h2] at hP1 hD1
  exact kk H1 _ ls hP1 hD1 (hS.put z oq (hD.2 i0 _ h1)) hl
theorem z_aald {a N m : Nat} {f : Nat → Option Nat} {j : Int32} {v : Value} (i : Nat) (C : eOk x E l y cc nL rt rm) (d : decode cc pc = .ok (.aaload, 1)) (hΓ : Γ[i]? = some (eQA E a N f)) (hj : j = nI m) (hm : m < N) (hN : N < 2 ^ 31) (hv : va_rf (f m) = v)
    (kk : eZ x E Q Γ (pc + 1) L (v :: rest) k n) : eZ x E Q Γ pc L (.int j :: .ref a :: rest) k n := by
  intro H locs ls hP hD hS hl
  obtain ⟨i0, h1, -⟩ := eBlk hΓ
  obtain ⟨e1, e2⟩ := eIn_at (f := fun _ => 0) hm hN hj
  refine va_aldq C.1 C.2.1 C.2.2.2.2.2.2.2.1.1 hP.1 i0 1 h1 rfl e1 d ?_
  rw [e2, hv]
  exact kk H locs ls hP hD hS hl
theorem z_aastN {a N m : Nat} {f : Nat → Option Nat} {j : Int32} (i : Nat) (C : eOk x E l y cc nL rt rm) (d : decode cc pc = .ok (.aastore, 1)) (hΓ : Γ[i]? = some (eQA E a N f)) (hj : j = nI m) (hm : m < N) (hN : N < 2 ^ 31) (hG : Γ.set i (eQA E a N (va_up f m none)) = Γ2)
    (kk : eZ x E Q Γ2 (pc + 1) L rest k n) : eZ x E Q Γ pc L (.null :: .int j :: .ref a :: rest) k n := by
  intro H locs ls hP hD hS hl
  obtain ⟨i0, h1, h2⟩ := eBlk hΓ
  obtain ⟨g1, g2⟩ := eIn_at (f := fun _ => 0) hm hN hj
  have hK := C.2.2.2.2.2.2.2.1.1
  subst hG
  refine va_WaastN (C := "java/lang/Object") C.1 C.2.1 (hP.1 i0 _ h1) ((hK.2 1 _ rfl).1 N (fun j => va_rf (f j))) (fun h => by cases h) (by show ¬ (j < 0 ∨ (arrV _ _ _).slots.size ≤ _); rw [arrV_size]; exact g1) rfl rfl d fun H1 e z oq => ?_
  have e1 : H1[a]? = some (vp_cell (E.2.1 1) (N, .inr (.inr (.inr (.inr (va_up f m none)))))) := by
    rw [e, g2]
    rw [vp_cell_q, vp_cell_q, arrV_store]
    congr 2
    funext q
    by_cases hq : q = m
    · subst hq
      simp [updV, va_up, va_rf]
    · simp [updV, va_up, hq]
  have hP1 := eP_set (E := E) (e := .inl (E.2.1 1, N, .inr (.inr (.inr (.inr (va_up f m none)))))) hP hD h1 e1 (eFr.of e1 rfl rfl) oq
  have hD1 := hD.set (e := .inl (E.2.1 1, N, .inr (.inr (.inr (.inr (va_up f m none)))))) h1
  rw [← h2] at hP1 hD1
  exact kk H1 _ ls hP1 hD1 (hS.put z oq (hD.2 i0 _ h1)) hl
theorem z_aast {a b ci N m : Nat} {fs : List Value} {f : Nat → Option Nat} {j : Int32} {r : vw_C} (i : Nat) (C : eOk x E l y cc nL rt rm) (d : decode cc pc = .ok (.aastore, 1)) (hΓ : Γ[i]? = some (eQA E a N f)) (hb : (b, (.inr (ci, fs) : va_E)) ∈ Γ.flatten) (hc : eCl[ci]? = some r) (q : Cond.castable r.1 "java/lang/Object" ∈ lw_tbl) (hj : j = nI m) (hm : m < N) (hN : N < 2 ^ 31) (hG : Γ.set i (eQA E a N (va_up f m (some b))) = Γ2)
    (kk : eZ x E Q Γ2 (pc + 1) L rest k n) : eZ x E Q Γ pc L (.ref b :: .int j :: .ref a :: rest) k n := by
  intro H locs ls hP hD hS hl
  obtain ⟨i0, h1, h2⟩ := eBlk hΓ
  obtain ⟨g1, g2⟩ := eIn_at (f := fun _ => 0) hm hN hj
  have hK := C.2.2.2.2.2.2.2.1.1
  have h0 : ¬ j < 0 := fun q => g1 (Or.inl q)
  obtain ⟨k0, hk0⟩ := List.getElem?_of_mem hb
  obtain ⟨r', hr', cellV, c1, c2, c3, -⟩ := hP.1 k0 _ hk0
  have hcls := (hK.1 ci r hc).2
  obtain ⟨kA, comp, k1, k2, k3, -⟩ := (hK.2 1 _ rfl).2
  obtain ⟨kE, hkE, -⟩ := Vm.findClass_spec k3
  obtain ⟨c0, t1, f1, f2, f3⟩ := Cond.castable_spec (va_Nw.use (A := eAr x) rfl (C.2.2.2.2.2.2.2.1.2.2.1 _ (eNw_in q rfl)))
  cases hcls.1.symm.trans f1
  cases k3.symm.trans f2
  obtain ⟨kC, hkC, -⟩ := hcls.2
  subst hG
  refine W.aast C.1 C.2.1 (hP.1 i0 _ h1) (fun q h => by cases h) (fun h => by cases h) k1 k2 rfl hkE ⟨h0, by show _ < (arrV _ _ _).slots.size; rw [arrV_size, g2]; exact hm⟩ c1 (fun q h => by rw [c3] at h; cases h) (by rw [c2]; exact hkC) (by rw [c2]; exact f3) rfl rfl d fun H1 e z oq => ?_
  have e1 : H1[a]? = some (vp_cell (E.2.1 1) (N, .inr (.inr (.inr (.inr (va_up f m (some b))))))) := by
    rw [e, g2]
    rw [vp_cell_q, vp_cell_q, arrV_store]
    congr 2
    funext q
    by_cases hq : q = m
    · subst hq
      simp [updV, va_up, va_rf]
    · simp [updV, va_up, hq]
  have hP1 := eP_set (E := E) (e := .inl (E.2.1 1, N, .inr (.inr (.inr (.inr (va_up f m (some b))))))) hP hD h1 e1 (eFr.of e1 rfl rfl) oq
  have hD1 := hD.set (e := .inl (E.2.1 1, N, .inr (.inr (.inr (.inr (va_up f m (some b))))))) h1
  rw [← h2] at hP1 hD1
  exact kk H1 _ ls hP1 hD1 (hS.put z oq (hD.2 i0 _ h1)) hl
theorem z_aleni {a N : Nat} {f : Nat → Int32} {v : Int32} (i : Nat) (C : eOk x E l y cc nL rt rm) (d : decode cc pc = .ok (.arraylength, 1)) (hΓ : Γ[i]? = some (eIA E a N f)) (hv : Int32.ofNat N = v)
    (kk : eZ x E Q Γ (pc + 1) L (.int v :: rest) k n) : eZ x E Q Γ pc L (.ref a :: rest) k n := by
  intro H locs ls hP hD hS hl
  obtain ⟨i0, h1, -⟩ := eBlk hΓ
  exact va_alen C.1 C.2.1 C.2.2.2.2.2.2.2.1.1 hP.1 i0 0 h1 rfl hv d (kk H locs ls hP hD hS hl)
theorem z_alenb {a N : Nat} {f : Nat → Int32} {v : Int32} (i : Nat) (C : eOk x E l y cc nL rt rm) (d : decode cc pc = .ok (.arraylength, 1)) (hΓ : Γ[i]? = some (eBA E a N f)) (hv : Int32.ofNat N = v)
    (kk : eZ x E Q Γ (pc + 1) L (.int v :: rest) k n) : eZ x E Q Γ pc L (.ref a :: rest) k n := by
  intro H locs ls hP hD hS hl
  obtain ⟨i0, h1, -⟩ := eBlk hΓ
  exact va_alen C.1 C.2.1 C.2.2.2.2.2.2.2.1.1 hP.1 i0 2 h1 rfl hv d (kk H locs ls hP hD hS hl)
theorem z_alenq {a N : Nat} {f : Nat → Option Nat} {v : Int32} (i : Nat) (C : eOk x E l y cc nL rt rm) (d : decode cc pc = .ok (.arraylength, 1)) (hΓ : Γ[i]? = some (eQA E a N f)) (hv : Int32.ofNat N = v)
    (kk : eZ x E Q Γ (pc + 1) L (.int v :: rest) k n) : eZ x E Q Γ pc L (.ref a :: rest) k n := by
  intro H locs ls hP hD hS hl
  obtain ⟨i0, h1, -⟩ := eBlk hΓ
  exact va_alen C.1 C.2.1 C.2.2.2.2.2.2.2.1.1 hP.1 i0 1 h1 rfl hv d (kk H locs ls hP hD hS hl)
/-- the length of ArrayList's empty array -/
theorem z_alenE (C : eOk x E l y cc nL rt rm) (d : decode cc pc = .ok (.arraylength, 1))
    (kk : eZ x E Q Γ (pc + 1) L (.int 0 :: rest) k n) : eZ x E Q Γ pc L (.ref (E.2.2.2 0) :: rest) k n := by
  intro H locs ls hP hD hS hl
  exact va_tlen C.1 C.2.1 C.2.2.2.2.2.2.2.1.2.2.2.2.2.1.1.2.1 hS rfl d (kk H locs ls hP hD hS hl)
theorem z_newI {m : Nat} {j : Int32} (C : eOk x E l y cc nL rt rm) (d : decode cc pc = .ok (.newarray .int, 2)) (hj : j = nI m) (hm : m < 1000000) (h1 : k + 1 ≤ rm.cells) (h2 : n + m ≤ rm.slots)
    (kk : ∀ q : Nat, eZ x E Q (Γ ++ [eIA E q m (fun _ => 0)]) (pc + 2) L (.ref q :: rest) (k + 1) (n + m)) : eZ x E Q Γ pc L (.int j :: rest) k n := by
  intro H locs ls hP hD hS hl
  have hR := C.2.2.2.2.2.2.2.2.1
  have hc : j.toNatClampNeg = m := by rw [hj]; exact nI_clamp (by omega)
  have hK := C.2.2.2.2.2.2.2.1.1
  refine va_newaK (atype := .int) (N := m) C.1 C.2.1 (C.2.2.2.2.1 _ q140) rfl d rfl (by rw [hj]; exact nI_pos (by omega)) hc (by show m * 4 ≤ _; omega) (by show _ ≤ (eRo x).cells; rw [hR]; exact h1) (by show _ ≤ (eRo x).slots; rw [hR]; exact h2) rfl fun H1 cA e1 z1 o1 hAr hNm => ?_
  have ec : cA = E.2.1 0 := Option.some.inj (hNm.symm.trans (hK.2 0 _ rfl).2)
  subst ec
  have hP1 := eP_push (E := E) (e := .inl (E.2.1 0, m, .inl (fun _ => 0))) hP rfl e1 (eFr.of e1 rfl rfl) o1
  have hD1 := hD.push (e := .inl (E.2.1 0, m, .inl (fun _ => 0))) hP.1 rfl (C.2.2.2.2.2.2.2.1.2.1 _ hS.1)
  rw [show Γ.flatten ++ [(H.size, (.inl (E.2.1 0, m, .inl (fun _ => 0)) : va_E))] = (Γ ++ [eIA E H.size m (fun _ => 0)]).flatten by simp] at hP1 hD1
  exact kk H.size H1 locs ls hP1 hD1 ⟨Nat.le_trans hS.1 (by omega), fun z g1 g2 => (o1 z (Nat.lt_of_lt_of_le g1 hS.1)).trans (hS.2.1 z g1 g2), hS.2.2⟩ hl
theorem z_newB {m : Nat} {j : Int32} (C : eOk x E l y cc nL rt rm) (d : decode cc pc = .ok (.newarray .byte, 2)) (hj : j = nI m) (hm : m < 1000000) (h1 : k + 1 ≤ rm.cells) (h2 : n + m ≤ rm.slots)
    (kk : ∀ q : Nat, eZ x E Q (Γ ++ [eBA E q m (fun _ => 0)]) (pc + 2) L (.ref q :: rest) (k + 1) (n + m)) : eZ x E Q Γ pc L (.int j :: rest) k n := by
  intro H locs ls hP hD hS hl
  have hR := C.2.2.2.2.2.2.2.2.1
  have hc : j.toNatClampNeg = m := by rw [hj]; exact nI_clamp (by omega)
  have hK := C.2.2.2.2.2.2.2.1.1
  refine va_newaK (atype := .byte) (N := m) C.1 C.2.1 (C.2.2.2.2.1 _ q397) rfl d rfl (by rw [hj]; exact nI_pos (by omega)) hc (by show m * 1 ≤ _; omega) (by show _ ≤ (eRo x).cells; rw [hR]; exact h1) (by show _ ≤ (eRo x).slots; rw [hR]; exact h2) rfl fun H1 cA e1 z1 o1 hAr hNm => ?_
  have ec : cA = E.2.1 2 := Option.some.inj (hNm.symm.trans (hK.2 2 _ rfl).2)
  subst ec
  have hP1 := eP_push (E := E) (e := .inl (E.2.1 2, m, .inl (fun _ => 0))) hP rfl e1 (eFr.of e1 rfl rfl) o1
  have hD1 := hD.push (e := .inl (E.2.1 2, m, .inl (fun _ => 0))) hP.1 rfl (C.2.2.2.2.2.2.2.1.2.1 _ hS.1)
  rw [show Γ.flatten ++ [(H.size, (.inl (E.2.1 2, m, .inl (fun _ => 0)) : va_E))] = (Γ ++ [eBA E H.size m (fun _ => 0)]).flatten by simp] at hP1 hD1
  exact kk H.size H1 locs ls hP1 hD1 ⟨Nat.le_trans hS.1 (by omega), fun z g1 g2 => (o1 z (Nat.lt_of_lt_of_le g1 hS.1)).trans (hS.2.1 z g1 g2), hS.2.2⟩ hl
theorem z_newQ {m idx : Nat} {j : Int32} {own : String} (C : eOk x E l y cc nL rt rm) (d : decode cc pc = .ok (.anewarray idx, 3)) (ho : y.cls = own) (q1 : Cond.classLink own idx "java/lang/Object" ∈ lw_all) (hj : j = nI m) (hm : m < 1000000) (h1 : k + 1 ≤ rm.cells) (h2 : n + m ≤ rm.slots)
    (kk : ∀ q : Nat, eZ x E Q (Γ ++ [eQA E q m (fun _ => none)]) (pc + 3) L (.ref q :: rest) (k + 1) (n + m)) : eZ x E Q Γ pc L (.int j :: rest) k n := by
  intro H locs ls hP hD hS hl
  have hR := C.2.2.2.2.2.2.2.2.1
  have hc : j.toNatClampNeg = m := by rw [hj]; exact nI_clamp (by omega)
  have hK := C.2.2.2.2.2.2.2.1.1
  subst hc
  refine W.anew C.1 C.2.1 (own := own) (ho ▸ C.2.2.2.1) (C.2.2.2.2.1 _ q1) (va_AO.use C.2.2.2.2.2.2.2.1.2.2.2.1) rfl d rfl (by rw [hj]; exact nI_pos (by omega)) (by omega) (by show _ ≤ (eRo x).cells; rw [hR]; exact h1) (by show _ ≤ (eRo x).slots; rw [hR]; exact h2) fun cA kA comp f1 f2 f3 f4 => ?_
  have ec : cA = E.2.1 1 := by
    obtain ⟨_, _, _, _, _, g2⟩ := (hK.2 1 _ rfl).2
    exact Option.some.inj (f1.symm.trans g2)
  subst ec
  generalize hH1 : H.push ({ cls := E.2.1 1, slots := Array.replicate j.toNatClampNeg .null, vm := .none } : Cell) = H1
  have z1 : H1.size = H.size + 1 := by rw [← hH1, Array.size_push]
  have e1 : H1[H.size]? = some (vp_cell (E.2.1 1) (j.toNatClampNeg, .inr (.inr (.inr (.inr (fun _ => none)))))) := by rw [vp_cell_q, ← hH1, Array.getElem?_push_size, arrV_new]; rfl
  have o1 : ∀ q : Nat, q < H.size → H1[q]? = H[q]? := fun q hq => by rw [← hH1, Array.getElem?_push, if_neg (Nat.ne_of_lt hq)]
  have hP1 := eP_push (E := E) (e := .inl (E.2.1 1, j.toNatClampNeg, .inr (.inr (.inr (.inr (fun _ => none)))))) hP rfl e1 (eFr.of e1 rfl rfl) o1
  have hD1 := hD.push (e := .inl (E.2.1 1, j.toNatClampNeg, .inr (.inr (.inr (.inr (fun _ => none)))))) hP.1 rfl (C.2.2.2.2.2.2.2.1.2.1 _ hS.1)
  rw [show Γ.flatten ++ [(H.size, (.inl (E.2.1 1, j.toNatClampNeg, .inr (.inr (.inr (.inr (fun _ => none))))) : va_E))] = (Γ ++ [eQA E H.size j.toNatClampNeg (fun _ => none)]).flatten by simp] at hP1 hD1
  exact kk H.size H1 locs ls hP1 hD1 ⟨Nat.le_trans hS.1 (by omega), fun z g1 g2 => (o1 z (Nat.lt_of_lt_of_le g1 hS.1)).trans (hS.2.1 z g1 g2), hS.2.2⟩ hl
theorem eRecv {a ci : Nat} {fs : List Value} {r : vw_C} {H : Heap} (C : eOk x E l y cc nL rt rm) (hP : eP E Γ.flatten H) (hb : (a, (.inr (ci, fs) : va_E)) ∈ Γ.flatten) (hc : eCl[ci]? = some r) : ∃ cell : Cell, H[a]? = some cell ∧ cell.vm.isStatics = false ∧ (eSt x).vm.findClass r.1 = some cell.cls := by
  obtain ⟨k0, hk0⟩ := List.getElem?_of_mem hb
  exact va_recv C.2.2.2.2.2.2.2.1.1 hP.1 hc hk0
/-- a cast to the object's own class -/
theorem z_castE {a ci idx : Nat} {fs : List Value} {r : vw_C} {own : String} (C : eOk x E l y cc nL rt rm) (d : decode cc pc = .ok (.checkcast idx, 3)) (hb : (a, (.inr (ci, fs) : va_E)) ∈ Γ.flatten) (hc : eCl[ci]? = some r) (ho : y.cls = own) (q : Cond.classLink own idx r.1 ∈ lw_all)
    (kk : eZ x E Q Γ (pc + 3) L (.ref a :: rest) k n) : eZ x E Q Γ pc L (.ref a :: rest) k n :=
  fun H locs ls hP hD hS hl => va_castE C.1 C.2.1 (own := own) (ho ▸ C.2.2.2.1) (C.2.2.2.2.1 _ q) (eRecv C hP hb hc) d (kk H locs ls hP hD hS hl)
theorem z_castY {a ci idx : Nat} {fs : List Value} {r : vw_C} {own nm : String} (C : eOk x E l y cc nL rt rm) (d : decode cc pc = .ok (.checkcast idx, 3)) (hb : (a, (.inr (ci, fs) : va_E)) ∈ Γ.flatten) (hc : eCl[ci]? = some r) (ho : y.cls = own) (q : Cond.classLink own idx nm ∈ lw_all) (q2 : Cond.castable r.1 nm ∈ lw_tbl)
    (kk : eZ x E Q Γ (pc + 3) L (.ref a :: rest) k n) : eZ x E Q Γ pc L (.ref a :: rest) k n :=
  fun H locs ls hP hD hS hl => va_castY C.1 C.2.1 (own := own) (ho ▸ C.2.2.2.1) (C.2.2.2.2.1 _ q) (C.2.2.2.2.2.2.2.1.2.2.1 _ (eNw_in q2 rfl)) (eRecv C hP hb hc) d (kk H locs ls hP hD hS hl)
theorem z_instY {a ci idx : Nat} {fs : List Value} {r : vw_C} {own nm : String} (C : eOk x E l y cc nL rt rm) (d : decode cc pc = .ok (.instanceof idx, 3)) (hb : (a, (.inr (ci, fs) : va_E)) ∈ Γ.flatten) (hc : eCl[ci]? = some r) (ho : y.cls = own) (q : Cond.classLink own idx nm ∈ lw_all) (q2 : Cond.castable r.1 nm ∈ lw_tbl)
    (kk : eZ x E Q Γ (pc + 3) L (.int 1 :: rest) k n) : eZ x E Q Γ pc L (.ref a :: rest) k n :=
  fun H locs ls hP hD hS hl => va_instY C.1 C.2.1 (own := own) (ho ▸ C.2.2.2.1) (C.2.2.2.2.1 _ q) (C.2.2.2.2.2.2.2.1.2.2.1 _ (eNw_in q2 rfl)) (eRecv C hP hb hc) d (kk H locs ls hP hD hS hl)
theorem z_instN {idx : Nat} (C : eOk x E l y cc nL rt rm) (d : decode cc pc = .ok (.instanceof idx, 3))
    (kk : eZ x E Q Γ (pc + 3) L (.int 0 :: rest) k n) : eZ x E Q Γ pc L (.null :: rest) k n :=
  fun H locs ls hP hD hS hl => lv_instN C.1 C.2.1 d (kk H locs ls hP hD hS hl)
/-- the statics: ArrayList's empty array; COMPACT_STRINGS; SIOOBE_FORMATTER -/
theorem z_getsE {idx : Nat} {own ref : String} (C : eOk x E l y cc nL rt rm) (d : decode cc pc = .ok (.getstatic idx, 3)) (ho : y.cls = own) (q : Cond.fieldLink own idx ref "DEFAULTCAPACITY_EMPTY_ELEMENTDATA" "[Ljava/lang/Object;" ∈ lw_all) (hr : ref = "java/util/ArrayList")
    (kk : eZ x E Q Γ (pc + 3) L (.ref (E.2.2.2 0) :: rest) k n) : eZ x E Q Γ pc L rest k n :=
  fun H locs ls hP hD hS hl => va_gets C.1 C.2.1 C.2.2.2.2.2.2.2.1.2.2.2.2.2.1.1.1 hS (own := own) (ho ▸ C.2.2.2.1) (C.2.2.2.2.1 _ q) (fun _ h => hr ▸ h) d (kk H locs ls hP hD hS hl)
theorem z_getsC {idx : Nat} {own ref : String} (C : eOk x E l y cc nL rt rm) (d : decode cc pc = .ok (.getstatic idx, 3)) (ho : y.cls = own) (q : Cond.fieldLink own idx ref "COMPACT_STRINGS" "Z" ∈ lw_all) (hr : ref = "java/lang/String")
    (kk : eZ x E Q Γ (pc + 3) L (.int 1 :: rest) k n) : eZ x E Q Γ pc L rest k n :=
  fun H locs ls hP hD hS hl => va_gets C.1 C.2.1 C.2.2.2.2.2.2.2.1.2.2.2.2.2.1.1.2.2 hS (own := own) (ho ▸ C.2.2.2.1) (C.2.2.2.2.1 _ q) (fun _ h => hr ▸ h) d (kk H locs ls hP hD hS hl)
theorem z_getsF {idx : Nat} {own ref : String} (C : eOk x E l y cc nL rt rm) (d : decode cc pc = .ok (.getstatic idx, 3)) (ho : y.cls = own) (q : Cond.fieldLink own idx ref "SIOOBE_FORMATTER" "Ljava/util/function/BiFunction;" ∈ lw_all) (hr : ref = "jdk/internal/util/Preconditions")
    (kk : ∀ r : Option Nat, eZ x E Q Γ (pc + 3) L (va_rf r :: rest) k n) : eZ x E Q Γ pc L rest k n := by
  intro H locs ls hP hD hS hl
  rcases C.2.2.2.2.2.2.2.1.2.2.2.2.2.1.2.1.2.2 with h | ⟨t, h⟩
  · exact va_gets C.1 C.2.1 h hS (own := own) (ho ▸ C.2.2.2.1) (C.2.2.2.2.1 _ q) (fun _ h => hr ▸ h) d (kk none H locs ls hP hD hS hl)
  · exact va_gets C.1 C.2.1 h hS (own := own) (ho ▸ C.2.2.2.1) (C.2.2.2.2.1 _ q) (fun _ h => hr ▸ h) d (kk (some t) H locs ls hP hD hS hl)
theorem z_objInit {idx : Nat} {own : String} {v : Nat} (C : eOk x E l y cc nL rt rm) (d : decode cc pc = .ok (.invokespecial idx, 3)) (hL0 : L.length = nL) (ho : y.cls = own) (q1 : Cond.methodLink own idx Lib.objectInit ∈ lw_all) (q2 : Cond.instanceMethod Lib.objectInit ∈ lw_all) (q3 : Cond.code Lib.objectInit ⟨#[0xb1]⟩ 1 none ∈ lw_all) (h1 : 1 ≤ rm.frames) (h2 : (rest.map fun v => v.category).sum + 12 ≤ rm.locals)
    (kk : eZ x E Q Γ (pc + 3) L rest k n) : eZ x E Q Γ pc L (.ref v :: rest) k n := by
  intro H locs ls hP hD hS hl
  have hR := C.2.2.2.2.2.2.2.2.1
  refine W.objInit C.1 C.2.1 (own := own) (ho ▸ C.2.2.2.1) (C.2.2.2.2.1 _ q1) (C.2.2.2.2.1 _ q2) (C.2.2.2.2.1 _ q3) rfl (by show ls.size = _; rw [show (eCo x).maxLocals = nL from C.2.2.1, hl.1.1, hL0]) rfl d (by show _ ≤ (eRo x).frames; rw [hR]; exact h1) (by show 2 * 0 + _ + 12 ≤ (eRo x).locals; rw [hR]; omega) (kk H locs ls hP hD hS hl)
end ZM
