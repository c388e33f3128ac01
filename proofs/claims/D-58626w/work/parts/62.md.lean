/-! ===== the model: egg, stain, set ===== -/
set_option maxRecDepth 100000
theorem rP_new {f0 f : Nat → Int32} {N : Nat} {v : Lv} {gs : List Eg} {cs : List Cr} {bs : List Enr} {tt st : Nat → Int32} (j : Nat) (x : Int32) (hj : j < 6) (h8 : gs.length < 8) (hz : rZ N gs cs bs) (h : rP f0 f N v gs cs bs tt st) : rP f0 (upd f (48 * N + 6 * gs.length + j) x) N v gs cs bs tt st := by
  obtain ⟨r1, r2, r3, r4, r5, r6⟩ := h
  obtain ⟨z1, z2, z3, z4⟩ := hz
  refine ⟨⟨by rw [upd_ne_ (by omega)]; exact r1.1, fun i h1 h2 => by rw [upd_ne_ (by omega)]; exact r1.2.1 i h1 h2, fun p g hg i hi => ?_⟩, fun k h1 h2 => by rw [upd_ne_ (by omega)]; exact r2 k h1 h2, rC_fr z3 (fun k h1 h2 => upd_ne_ (by omega)) r3, rB_fr z4 (fun k h1 h2 => upd_ne_ (by omega)) r4, fun i hi => by rw [upd_ne_ (by omega)]; exact r5 i hi, rS_fr (fun k h1 h2 => upd_ne_ (by omega)) r6⟩
  have hp : p < gs.length := (List.getElem?_eq_some_iff.mp hg).1
  rw [upd_ne_ (by omega)]; exact r1.2.2 p g hg i hi
theorem gTF_E (A : Am) {N : Nat} {x y : Lv × List Eg} (h : A.ls[N]? = some x) (hck : y.1.ck = x.1.ck) : ∀ j, j < 11 → upd (gTF A) 1 (A.u.cm + 1) j = gTF (A.ls.set N y, A.cs, A.bs, A.st, (A.u.tk, A.u.cm + 1, A.u.dk, A.u.co, A.u.wt, A.u.lk)) j := by
  intro j hj
  rcases j11 hj with h9 | h9 | h9 | h9 | h9 | h9 | h9 | h9 | h9 | h9 | h9 <;> subst h9 <;> try rfl
  show gCks A = gCks _
  rw [gCks_set h, hck, Int32.sub_self, Int32.add_zero]
theorem gTF_S (A : Am) (st : Nat → Int32) : ∀ j, j < 11 → gTF A j = gTF (A.ls, A.cs, A.bs, st, A.u) j := by
  intro j hj
  rcases j11 hj with h9 | h9 | h9 | h9 | h9 | h9 | h9 | h9 | h9 | h9 | h9 <;> subst h9 <;> rfl
theorem gSpL_sn (sp : Int32) (us : List Eg) (g : Eg) : gSpL sp (us ++ [g]) = (g.sp ||| sp, us ++ [gSpE sp g]) := by
  induction us with
  | nil => rfl
  | cons h t ih =>
    cases t with
    | nil => rfl
    | cons k t =>
      show ((gSpL sp (k :: (t ++ [g]))).1, h :: (gSpL sp (k :: (t ++ [g]))).2) = _
      rw [show k :: (t ++ [g]) = (k :: t) ++ [g] from rfl, ih]
      rfl
theorem set_last_ {α : Type} (us : List α) (g g2 : α) : (us ++ [g]).set us.length g2 = us ++ [g2] := by
  induction us with
  | nil => rfl
  | cons h t ih => rw [List.cons_append, List.length_cons, List.set_cons_succ, ih]; rfl

set_option maxHeartbeats 4000000 in
theorem m_Megg {l : Launch} (hl : l.stackTraces = false) (E : eEn) (a : Nat) (o : Mo) (f : Nat → Int32) (A : Am) (hok : gOk A) (R : Rep f A) (h : Nat → Int32) (hs : List Am) (hH : rH h o.pn hs) (hoks : ∀ B ∈ hs, gOk B) (hru : o.ru = 0 ∨ o.ru = 1) (ln p2 p3 p4 p5 p6 : Int32) : eMet l E yX4_egg (ws_ yX4_egg cX4_egg 8 (some .int)) ({ frames := 2, cells := 0, slots := 0, locals := 42 }) [.ref a, .int ln, .int p2, .int p3, .int p4, .int p5, .int p6] [eO a 4 [.ref o.sa, .ref o.pa, .ref o.ha, .ref o.xa, .int o.pn, .int o.ru, .ref o.ta, .int o.ty, .int o.sp, .int o.fr, .int o.re, .int o.ca, .int o.os, .int o.od, .ref o.na], eIA E o.sa 311 f, eIA E o.pa 1244 h] (mPost E a o A hs (gPuts A ln (p2, p3, p5, p6, p4, 0))) := by
  refine eStart (cc := cX4_egg) (nL := 8) (L := [some (.ref a), some (.int ln), some (.int p2), some (.int p3), some (.int p4), some (.int p5), some (.int p6), none]) hl (by decide) rfl (List.forall_mem_cons.mpr ⟨rfl, (List.forall_mem_cons.mpr ⟨rfl, (List.forall_mem_cons.mpr ⟨rfl, (List.forall_mem_cons.mpr ⟨rfl, (List.forall_mem_cons.mpr ⟨rfl, (List.forall_mem_cons.mpr ⟨rfl, (List.forall_mem_cons.mpr ⟨rfl, (fun _ h => absurd h List.not_mem_nil)⟩)⟩)⟩)⟩)⟩)⟩)⟩) (Nat.le_of_ble_eq_true rfl) ?_
  intro x rs C
  show eZ x E (eQ x E (mPost E a o A hs (gPuts A ln (p2, p3, p5, p6, p4, 0))) rs) [eO a 4 [.ref o.sa, .ref o.pa, .ref o.ha, .ref o.xa, .int o.pn, .int o.ru, .ref o.ta, .int o.ty, .int o.sp, .int o.fr, .int o.re, .int o.ca, .int o.os, .int o.od, .ref o.na], eIA E o.sa 311 f, eIA E o.pa 1244 h, rs] 0 [some (.ref a), some (.int ln), some (.int p2), some (.int p3), some (.int p4), some (.int p5), some (.int p6), none] [] 0 0
  generalize hQ_ : eQ x E (mPost E a o A hs (gPuts A ln (p2, p3, p5, p6, p4, 0))) rs = Q_
  have hg : gEgOk (p2, p3, p5, p6, p4, 0) = (eBt p2 30 90 && (eBt p3 0 99 && (eBt p4 0 255 && (eBt p5 1 2 && eBt p6 (-1) 7)))) := rfl
  refine z_iload_n C dX4_egg_0 rfl rfl ?_
  refine z_callS (As := [.int ln]) (rest := []) (Δ := [eO a 4 [.ref o.sa, .ref o.pa, .ref o.ha, .ref o.xa, .int o.pn, .int o.ru, .ref o.ta, .int o.ty, .int o.sp, .int o.fr, .int o.re, .int o.ca, .int o.os, .int o.od, .ref o.na], eIA E o.sa 311 f, eIA E o.pa 1244 h, rs]) [] [0, 1, 2, 3] 1 (m_MisLane hl E ln) C dX4_egg_1 rfl rfl rfl q1721 q1722 q67 q1723 (by decide +kernel) rfl (ePm 4 rfl (by decide +kernel)) rfl rfl ⟨Nat.le_of_ble_eq_true rfl, Nat.le_of_ble_eq_true rfl⟩ (Nat.le_trans eS0 (Nat.le_of_ble_eq_true rfl)) ⟨Nat.le_of_ble_eq_true rfl, Nat.le_of_ble_eq_true rfl⟩ (fun v_ Γ_ hp_ => ?_)
  obtain ⟨rfl, rfl⟩ := hp_
  show eZ x E _ [eO a 4 [.ref o.sa, .ref o.pa, .ref o.ha, .ref o.xa, .int o.pn, .int o.ru, .ref o.ta, .int o.ty, .int o.sp, .int o.fr, .int o.re, .int o.ca, .int o.os, .int o.od, .ref o.na], eIA E o.sa 311 f, eIA E o.pa 1244 h, rs] 4 [some (.ref a), some (.int ln), some (.int p2), some (.int p3), some (.int p4), some (.int p5), some (.int p6), none] [.int (eB (eBt ln 0 3))] 0 0
  refine z_if_eq_B 61 C dX4_egg_4 (by decide) (fun b0 => ?_) (fun b0 => ?_)
  · have hr : gPuts A ln (p2, p3, p5, p6, p4, 0) = .inl (-1000001) := by unfold gPuts; rw [hg, b0]; rfl
    refine z_ldc C dX4_egg_61 rfl q1727 ?_
    subst hQ_
    exact z_ret (Γ := [eO a 4 [.ref o.sa, .ref o.pa, .ref o.ha, .ref o.xa, .int o.pn, .int o.ru, .ref o.ta, .int o.ty, .int o.sp, .int o.fr, .int o.re, .int o.ca, .int o.os, .int o.od, .ref o.na], eIA E o.sa 311 f, eIA E o.pa 1244 h]) C dX4_egg_63 rfl rfl (Nat.le_of_ble_eq_true rfl) (Nat.le_of_ble_eq_true rfl) ⟨f, h, o.pn, by rw [hr]; rfl, rfl, by rw [hr]; exact R, by rw [hr]; exact hH⟩
  · refine z_iload_n C dX4_egg_7 rfl rfl ?_
    refine z_bipush (v := 30) C dX4_egg_8 (by decide) ?_
    refine z_bipush (v := 90) C dX4_egg_10 (by decide) ?_
    refine z_callS (As := [.int p2, .int 30, .int 90]) (rest := []) (Δ := [eO a 4 [.ref o.sa, .ref o.pa, .ref o.ha, .ref o.xa, .int o.pn, .int o.ru, .ref o.ta, .int o.ty, .int o.sp, .int o.fr, .int o.re, .int o.ca, .int o.os, .int o.od, .ref o.na], eIA E o.sa 311 f, eIA E o.pa 1244 h, rs]) [] [0, 1, 2, 3] 3 (m_Min hl E p2 30 90) C dX4_egg_12 rfl rfl rfl q1724 q1725 q67 q1726 (by decide +kernel) rfl (ePm 4 rfl (by decide +kernel)) rfl rfl ⟨Nat.le_of_ble_eq_true rfl, Nat.le_of_ble_eq_true rfl⟩ (Nat.le_trans eS0 (Nat.le_of_ble_eq_true rfl)) ⟨Nat.le_of_ble_eq_true rfl, Nat.le_of_ble_eq_true rfl⟩ (fun v_ Γ_ hp_ => ?_)
    obtain ⟨rfl, rfl⟩ := hp_
    show eZ x E _ [eO a 4 [.ref o.sa, .ref o.pa, .ref o.ha, .ref o.xa, .int o.pn, .int o.ru, .ref o.ta, .int o.ty, .int o.sp, .int o.fr, .int o.re, .int o.ca, .int o.os, .int o.od, .ref o.na], eIA E o.sa 311 f, eIA E o.pa 1244 h, rs] 15 [some (.ref a), some (.int ln), some (.int p2), some (.int p3), some (.int p4), some (.int p5), some (.int p6), none] [.int (eB (eBt p2 30 90))] 0 0
    refine z_if_eq_B 61 C dX4_egg_15 (by decide) (fun b1 => ?_) (fun b1 => ?_)
    · have hr : gPuts A ln (p2, p3, p5, p6, p4, 0) = .inl (-1000001) := by unfold gPuts; rw [hg, b0, b1]; rfl
      refine z_ldc C dX4_egg_61 rfl q1727 ?_
      subst hQ_
      exact z_ret (Γ := [eO a 4 [.ref o.sa, .ref o.pa, .ref o.ha, .ref o.xa, .int o.pn, .int o.ru, .ref o.ta, .int o.ty, .int o.sp, .int o.fr, .int o.re, .int o.ca, .int o.os, .int o.od, .ref o.na], eIA E o.sa 311 f, eIA E o.pa 1244 h]) C dX4_egg_63 rfl rfl (Nat.le_of_ble_eq_true rfl) (Nat.le_of_ble_eq_true rfl) ⟨f, h, o.pn, by rw [hr]; rfl, rfl, by rw [hr]; exact R, by rw [hr]; exact hH⟩
    · refine z_iload_n C dX4_egg_18 rfl rfl ?_
      refine z_iconst (v := 0) C dX4_egg_19 (by decide) ?_
      refine z_bipush (v := 99) C dX4_egg_20 (by decide) ?_
      refine z_callS (As := [.int p3, .int 0, .int 99]) (rest := []) (Δ := [eO a 4 [.ref o.sa, .ref o.pa, .ref o.ha, .ref o.xa, .int o.pn, .int o.ru, .ref o.ta, .int o.ty, .int o.sp, .int o.fr, .int o.re, .int o.ca, .int o.os, .int o.od, .ref o.na], eIA E o.sa 311 f, eIA E o.pa 1244 h, rs]) [] [0, 1, 2, 3] 3 (m_Min hl E p3 0 99) C dX4_egg_22 rfl rfl rfl q1724 q1725 q67 q1726 (by decide +kernel) rfl (ePm 4 rfl (by decide +kernel)) rfl rfl ⟨Nat.le_of_ble_eq_true rfl, Nat.le_of_ble_eq_true rfl⟩ (Nat.le_trans eS0 (Nat.le_of_ble_eq_true rfl)) ⟨Nat.le_of_ble_eq_true rfl, Nat.le_of_ble_eq_true rfl⟩ (fun v_ Γ_ hp_ => ?_)
      obtain ⟨rfl, rfl⟩ := hp_
      show eZ x E _ [eO a 4 [.ref o.sa, .ref o.pa, .ref o.ha, .ref o.xa, .int o.pn, .int o.ru, .ref o.ta, .int o.ty, .int o.sp, .int o.fr, .int o.re, .int o.ca, .int o.os, .int o.od, .ref o.na], eIA E o.sa 311 f, eIA E o.pa 1244 h, rs] 25 [some (.ref a), some (.int ln), some (.int p2), some (.int p3), some (.int p4), some (.int p5), some (.int p6), none] [.int (eB (eBt p3 0 99))] 0 0
      refine z_if_eq_B 61 C dX4_egg_25 (by decide) (fun b2 => ?_) (fun b2 => ?_)
      · have hr : gPuts A ln (p2, p3, p5, p6, p4, 0) = .inl (-1000001) := by unfold gPuts; rw [hg, b0, b1, b2]; rfl
        refine z_ldc C dX4_egg_61 rfl q1727 ?_
        subst hQ_
        exact z_ret (Γ := [eO a 4 [.ref o.sa, .ref o.pa, .ref o.ha, .ref o.xa, .int o.pn, .int o.ru, .ref o.ta, .int o.ty, .int o.sp, .int o.fr, .int o.re, .int o.ca, .int o.os, .int o.od, .ref o.na], eIA E o.sa 311 f, eIA E o.pa 1244 h]) C dX4_egg_63 rfl rfl (Nat.le_of_ble_eq_true rfl) (Nat.le_of_ble_eq_true rfl) ⟨f, h, o.pn, by rw [hr]; rfl, rfl, by rw [hr]; exact R, by rw [hr]; exact hH⟩
      · refine z_iload C dX4_egg_28 rfl ?_
        refine z_iconst (v := 0) C dX4_egg_30 (by decide) ?_
        refine z_sipush (v := 255) C dX4_egg_31 (by decide) ?_
        refine z_callS (As := [.int p4, .int 0, .int 255]) (rest := []) (Δ := [eO a 4 [.ref o.sa, .ref o.pa, .ref o.ha, .ref o.xa, .int o.pn, .int o.ru, .ref o.ta, .int o.ty, .int o.sp, .int o.fr, .int o.re, .int o.ca, .int o.os, .int o.od, .ref o.na], eIA E o.sa 311 f, eIA E o.pa 1244 h, rs]) [] [0, 1, 2, 3] 3 (m_Min hl E p4 0 255) C dX4_egg_34 rfl rfl rfl q1724 q1725 q67 q1726 (by decide +kernel) rfl (ePm 4 rfl (by decide +kernel)) rfl rfl ⟨Nat.le_of_ble_eq_true rfl, Nat.le_of_ble_eq_true rfl⟩ (Nat.le_trans eS0 (Nat.le_of_ble_eq_true rfl)) ⟨Nat.le_of_ble_eq_true rfl, Nat.le_of_ble_eq_true rfl⟩ (fun v_ Γ_ hp_ => ?_)
        obtain ⟨rfl, rfl⟩ := hp_
        show eZ x E _ [eO a 4 [.ref o.sa, .ref o.pa, .ref o.ha, .ref o.xa, .int o.pn, .int o.ru, .ref o.ta, .int o.ty, .int o.sp, .int o.fr, .int o.re, .int o.ca, .int o.os, .int o.od, .ref o.na], eIA E o.sa 311 f, eIA E o.pa 1244 h, rs] 37 [some (.ref a), some (.int ln), some (.int p2), some (.int p3), some (.int p4), some (.int p5), some (.int p6), none] [.int (eB (eBt p4 0 255))] 0 0
        refine z_if_eq_B 61 C dX4_egg_37 (by decide) (fun b3 => ?_) (fun b3 => ?_)
        · have hr : gPuts A ln (p2, p3, p5, p6, p4, 0) = .inl (-1000001) := by unfold gPuts; rw [hg, b0, b1, b2, b3]; rfl
          refine z_ldc C dX4_egg_61 rfl q1727 ?_
          subst hQ_
          exact z_ret (Γ := [eO a 4 [.ref o.sa, .ref o.pa, .ref o.ha, .ref o.xa, .int o.pn, .int o.ru, .ref o.ta, .int o.ty, .int o.sp, .int o.fr, .int o.re, .int o.ca, .int o.os, .int o.od, .ref o.na], eIA E o.sa 311 f, eIA E o.pa 1244 h]) C dX4_egg_63 rfl rfl (Nat.le_of_ble_eq_true rfl) (Nat.le_of_ble_eq_true rfl) ⟨f, h, o.pn, by rw [hr]; rfl, rfl, by rw [hr]; exact R, by rw [hr]; exact hH⟩
        · refine z_iload C dX4_egg_40 rfl ?_
          refine z_iconst (v := 1) C dX4_egg_42 (by decide) ?_
          refine z_iconst (v := 2) C dX4_egg_43 (by decide) ?_
          refine z_callS (As := [.int p5, .int 1, .int 2]) (rest := []) (Δ := [eO a 4 [.ref o.sa, .ref o.pa, .ref o.ha, .ref o.xa, .int o.pn, .int o.ru, .ref o.ta, .int o.ty, .int o.sp, .int o.fr, .int o.re, .int o.ca, .int o.os, .int o.od, .ref o.na], eIA E o.sa 311 f, eIA E o.pa 1244 h, rs]) [] [0, 1, 2, 3] 3 (m_Min hl E p5 1 2) C dX4_egg_44 rfl rfl rfl q1724 q1725 q67 q1726 (by decide +kernel) rfl (ePm 4 rfl (by decide +kernel)) rfl rfl ⟨Nat.le_of_ble_eq_true rfl, Nat.le_of_ble_eq_true rfl⟩ (Nat.le_trans eS0 (Nat.le_of_ble_eq_true rfl)) ⟨Nat.le_of_ble_eq_true rfl, Nat.le_of_ble_eq_true rfl⟩ (fun v_ Γ_ hp_ => ?_)
          obtain ⟨rfl, rfl⟩ := hp_
          show eZ x E _ [eO a 4 [.ref o.sa, .ref o.pa, .ref o.ha, .ref o.xa, .int o.pn, .int o.ru, .ref o.ta, .int o.ty, .int o.sp, .int o.fr, .int o.re, .int o.ca, .int o.os, .int o.od, .ref o.na], eIA E o.sa 311 f, eIA E o.pa 1244 h, rs] 47 [some (.ref a), some (.int ln), some (.int p2), some (.int p3), some (.int p4), some (.int p5), some (.int p6), none] [.int (eB (eBt p5 1 2))] 0 0
          refine z_if_eq_B 61 C dX4_egg_47 (by decide) (fun b4 => ?_) (fun b4 => ?_)
          · have hr : gPuts A ln (p2, p3, p5, p6, p4, 0) = .inl (-1000001) := by unfold gPuts; rw [hg, b0, b1, b2, b3, b4]; rfl
            refine z_ldc C dX4_egg_61 rfl q1727 ?_
            subst hQ_
            exact z_ret (Γ := [eO a 4 [.ref o.sa, .ref o.pa, .ref o.ha, .ref o.xa, .int o.pn, .int o.ru, .ref o.ta, .int o.ty, .int o.sp, .int o.fr, .int o.re, .int o.ca, .int o.os, .int o.od, .ref o.na], eIA E o.sa 311 f, eIA E o.pa 1244 h]) C dX4_egg_63 rfl rfl (Nat.le_of_ble_eq_true rfl) (Nat.le_of_ble_eq_true rfl) ⟨f, h, o.pn, by rw [hr]; rfl, rfl, by rw [hr]; exact R, by rw [hr]; exact hH⟩
          · refine z_iload C dX4_egg_50 rfl ?_
            refine z_iconst (v := (-1)) C dX4_egg_52 (by decide) ?_
            refine z_bipush (v := 7) C dX4_egg_53 (by decide) ?_
            refine z_callS (As := [.int p6, .int (-1), .int 7]) (rest := []) (Δ := [eO a 4 [.ref o.sa, .ref o.pa, .ref o.ha, .ref o.xa, .int o.pn, .int o.ru, .ref o.ta, .int o.ty, .int o.sp, .int o.fr, .int o.re, .int o.ca, .int o.os, .int o.od, .ref o.na], eIA E o.sa 311 f, eIA E o.pa 1244 h, rs]) [] [0, 1, 2, 3] 3 (m_Min hl E p6 (-1) 7) C dX4_egg_55 rfl rfl rfl q1724 q1725 q67 q1726 (by decide +kernel) rfl (ePm 4 rfl (by decide +kernel)) rfl rfl ⟨Nat.le_of_ble_eq_true rfl, Nat.le_of_ble_eq_true rfl⟩ (Nat.le_trans eS0 (Nat.le_of_ble_eq_true rfl)) ⟨Nat.le_of_ble_eq_true rfl, Nat.le_of_ble_eq_true rfl⟩ (fun v_ Γ_ hp_ => ?_)
            obtain ⟨rfl, rfl⟩ := hp_
            show eZ x E _ [eO a 4 [.ref o.sa, .ref o.pa, .ref o.ha, .ref o.xa, .int o.pn, .int o.ru, .ref o.ta, .int o.ty, .int o.sp, .int o.fr, .int o.re, .int o.ca, .int o.os, .int o.od, .ref o.na], eIA E o.sa 311 f, eIA E o.pa 1244 h, rs] 58 [some (.ref a), some (.int ln), some (.int p2), some (.int p3), some (.int p4), some (.int p5), some (.int p6), none] [.int (eB (eBt p6 (-1) 7))] 0 0
            refine z_if_ne_B 64 C dX4_egg_58 (by decide) (fun b5 => ?_) (fun b5 => ?_)
            · have hgo : gEgOk (p2, p3, p5, p6, p4, 0) = true := by rw [hg, b1, b2, b3, b4, b5]; rfl
              have hb := b0
              obtain ⟨N, hN, rfl⟩ := eBt_N (b0)
              have hN4 : N < 4 := Nat.lt_succ_of_le hN
              obtain ⟨⟨lv, gs⟩, hx⟩ : ∃ q_, A.ls[N]? = some q_ := ⟨_, List.getElem?_eq_getElem (by rw [hok.1]; exact hN4)⟩
              have h8 : gs.length ≤ 8 := hok.2.1 _ (List.mem_of_getElem? hx)
              have hz : rZ N gs A.cs A.bs := ⟨hN4, h8, Nat.le_of_eq hok.2.2.1, hok.2.2.2.1⟩
              have R0 : rP f f N lv gs A.cs A.bs (gTF A) A.st := rP_of R hx
              show eZ x E _ [eO a 4 [.ref o.sa, .ref o.pa, .ref o.ha, .ref o.xa, .int o.pn, .int o.ru, .ref o.ta, .int o.ty, .int o.sp, .int o.fr, .int o.re, .int o.ca, .int o.os, .int o.od, .ref o.na], eIA E o.sa 311 f, eIA E o.pa 1244 h, rs] 64 [some (.ref a), some (.int (nI N)), some (.int p2), some (.int p3), some (.int p4), some (.int p5), some (.int p6), none] [] 0 0
              refine z_aload_n C dX4_egg_64 rfl rfl ?_
              refine z_iload_n C dX4_egg_65 rfl rfl ?_
              refine z_callV (r := (RX4, TX4, 15)) (As := [.int (nI N)]) (rest := []) (Δ := [eIA E o.pa 1244 h, rs]) [0, 1] [2, 3] 1 (m_Mmany hl E a o f N hN4 lv gs R0.1) C dX4_egg_66 rfl rfl (eIn (i := 0) rfl List.mem_cons_self) rfl rfl q1728 q1730 qs27 q67 q1731 (by decide +kernel) rfl (ePm 4 rfl (by decide +kernel)) rfl rfl ⟨Nat.le_of_ble_eq_true rfl, Nat.le_of_ble_eq_true rfl⟩ (Nat.le_trans eS0 (Nat.le_of_ble_eq_true rfl)) ⟨Nat.le_of_ble_eq_true rfl, Nat.le_of_ble_eq_true rfl⟩ (fun v_ Γ_ hp_ => ?_)
              obtain ⟨rfl, rfl⟩ := hp_
              show eZ x E _ [eO a 4 [.ref o.sa, .ref o.pa, .ref o.ha, .ref o.xa, .int o.pn, .int o.ru, .ref o.ta, .int o.ty, .int o.sp, .int o.fr, .int o.re, .int o.ca, .int o.os, .int o.od, .ref o.na], eIA E o.sa 311 f, eIA E o.pa 1244 h, rs] 69 [some (.ref a), some (.int (nI N)), some (.int p2), some (.int p3), some (.int p4), some (.int p5), some (.int p6), none] [.int (nI gs.length)] 0 0
              refine z_bipush (v := 8) C dX4_egg_69 (by decide) ?_
              refine z_icmp_ne 77 C dX4_egg_71 (by decide) (fun k1 => ?_) (fun k1 => ?_)
              · have hl8 : gs.length < 8 := by rcases Nat.lt_or_ge gs.length 8 with h | h; exact h; exact absurd (by rw [show gs.length = 8 by omega]; rfl) k1
                have hr : gPuts A (nI N) (p2, p3, p5, p6, p4, 0) = .inr (nI (gs.length + 1), (A.ls.set N (lv, gs ++ [(p2, p3, p5, p6, p4, 0)]), A.cs, A.bs, A.st, (A.u.tk, A.u.cm + 1, A.u.dk, A.u.co, A.u.wt, A.u.lk))) := by unfold gPuts; rw [hb, hgo, gL_at hN4 hx, gSetL_at hN4]; exact if_pos hl8
                refine z_aload_n C dX4_egg_77 rfl rfl ?_
                refine z_callV (r := (RX4, TX4, 15)) (As := []) (rest := []) (Δ := [rs]) [0, 1, 2] [3] 0 (m_Mchanges hl E a o f A hok R h hs hH hoks hru) C dX4_egg_78 rfl rfl (eIn (i := 0) rfl List.mem_cons_self) rfl rfl q1733 q1735 qs28 q67 q1736 (by decide +kernel) rfl (ePm 4 rfl (by decide +kernel)) rfl rfl ⟨Nat.le_of_ble_eq_true rfl, Nat.le_of_ble_eq_true rfl⟩ (Nat.le_trans eS0 (Nat.le_of_ble_eq_true rfl)) ⟨Nat.le_of_ble_eq_true rfl, Nat.le_of_ble_eq_true rfl⟩ (fun v_ Γ_ hp_ => ?_)
                obtain ⟨rfl, h2, pn2, rfl, hH2⟩ := hp_
                show eZ x E _ [eO a 4 [.ref o.sa, .ref o.pa, .ref o.ha, .ref o.xa, .int pn2, .int o.ru, .ref o.ta, .int o.ty, .int o.sp, .int o.fr, .int o.re, .int o.ca, .int o.os, .int o.od, .ref o.na], eIA E o.sa 311 f, eIA E o.pa 1244 h2, rs] 81 [some (.ref a), some (.int (nI N)), some (.int p2), some (.int p3), some (.int p4), some (.int p5), some (.int p6), none] [] 0 0
                refine z_iload_n C dX4_egg_81 rfl rfl ?_
                refine z_aload_n C dX4_egg_82 rfl rfl ?_
                refine z_iload_n C dX4_egg_83 rfl rfl ?_
                refine z_callV (r := (RX4, TX4, 15)) (As := [.int (nI N)]) (rest := [.int (nI N)]) (Δ := [eIA E o.pa 1244 h2, rs]) [0, 1] [2, 3] 1 (m_Mmany hl E a (o.sa, o.pa, o.ha, o.xa, pn2, o.ru, o.ta, o.ty, o.sp, o.fr, o.re, o.ca, o.os, o.od, o.na) f N hN4 lv gs R0.1) C dX4_egg_84 rfl rfl (eIn (i := 0) rfl List.mem_cons_self) rfl rfl q1728 q1730 qs27 q67 q1731 (by decide +kernel) rfl (ePm 4 rfl (by decide +kernel)) rfl rfl ⟨Nat.le_of_ble_eq_true rfl, Nat.le_of_ble_eq_true rfl⟩ (Nat.le_trans (eSm rfl eS0) (Nat.le_of_ble_eq_true rfl)) ⟨Nat.le_of_ble_eq_true rfl, Nat.le_of_ble_eq_true rfl⟩ (fun v_ Γ_ hp_ => ?_)
                obtain ⟨rfl, rfl⟩ := hp_
                show eZ x E _ [eO a 4 [.ref o.sa, .ref o.pa, .ref o.ha, .ref o.xa, .int pn2, .int o.ru, .ref o.ta, .int o.ty, .int o.sp, .int o.fr, .int o.re, .int o.ca, .int o.os, .int o.od, .ref o.na], eIA E o.sa 311 f, eIA E o.pa 1244 h2, rs] 87 [some (.ref a), some (.int (nI N)), some (.int p2), some (.int p3), some (.int p4), some (.int p5), some (.int p6), none] [.int (nI gs.length), .int (nI N)] 0 0
                refine z_callS (As := [.int (nI N), .int (nI gs.length)]) (rest := []) (Δ := [eO a 4 [.ref o.sa, .ref o.pa, .ref o.ha, .ref o.xa, .int pn2, .int o.ru, .ref o.ta, .int o.ty, .int o.sp, .int o.fr, .int o.re, .int o.ca, .int o.os, .int o.od, .ref o.na], eIA E o.sa 311 f, eIA E o.pa 1244 h2, rs]) [] [0, 1, 2, 3] 2 (m_MeggAt hl E N gs.length) C dX4_egg_87 rfl rfl rfl q1737 q1738 q67 q1739 (by decide +kernel) rfl (ePm 4 rfl (by decide +kernel)) rfl rfl ⟨Nat.le_of_ble_eq_true rfl, Nat.le_of_ble_eq_true rfl⟩ (Nat.le_trans eS0 (Nat.le_of_ble_eq_true rfl)) ⟨Nat.le_of_ble_eq_true rfl, Nat.le_of_ble_eq_true rfl⟩ (fun v_ Γ_ hp_ => ?_)
                obtain ⟨rfl, rfl⟩ := hp_
                show eZ x E _ [eO a 4 [.ref o.sa, .ref o.pa, .ref o.ha, .ref o.xa, .int pn2, .int o.ru, .ref o.ta, .int o.ty, .int o.sp, .int o.fr, .int o.re, .int o.ca, .int o.os, .int o.od, .ref o.na], eIA E o.sa 311 f, eIA E o.pa 1244 h2, rs] 90 [some (.ref a), some (.int (nI N)), some (.int p2), some (.int p3), some (.int p4), some (.int p5), some (.int p6), none] [.int (nI (48 * N + 6 * gs.length))] 0 0
                refine z_istore (L2 := [some (.ref a), some (.int (nI N)), some (.int p2), some (.int p3), some (.int p4), some (.int p5), some (.int p6), some (.int (nI (48 * N + 6 * gs.length)))]) C dX4_egg_90 (Nat.le_of_ble_eq_true rfl) rfl ?_
                refine z_aload_n C dX4_egg_92 rfl rfl ?_
                refine z_get eK4 0 0 C dX4_egg_93 rfl rfl q1671 (eSame1 rfl) (by decide) rfl ?_
                refine z_iload C dX4_egg_96 rfl ?_
                refine z_iconst (v := 0) C dX4_egg_98 (by decide) ?_
                refine z_iadd (w := nI (48 * N + 6 * gs.length)) C dX4_egg_99 (nI_add (48 * N + 6 * gs.length) 0) ?_
                refine z_iload_n C dX4_egg_100 rfl rfl ?_
                obtain ⟨f1, hf1⟩ : ∃ q_ : Nat → Int32, q_ = upd f (48 * N + 6 * gs.length) p2 := ⟨_, rfl⟩
                refine z_iast (m := (48 * N + 6 * gs.length)) (Γ2 := [eO a 4 [.ref o.sa, .ref o.pa, .ref o.ha, .ref o.xa, .int pn2, .int o.ru, .ref o.ta, .int o.ty, .int o.sp, .int o.fr, .int o.re, .int o.ca, .int o.os, .int o.od, .ref o.na], eIA E o.sa 311 f1, eIA E o.pa 1244 h2, rs]) 1 C dX4_egg_101 rfl rfl (by omega) (by decide) (by rw [hf1]; rfl) ?_
                have R2 : rP f f1 N lv gs A.cs A.bs (gTF A) A.st := by rw [hf1]; exact rP_new 0 _ (by decide) hl8 hz R0
                refine z_aload_n C dX4_egg_102 rfl rfl ?_
                refine z_get eK4 0 0 C dX4_egg_103 rfl rfl q1671 (eSame1 rfl) (by decide) rfl ?_
                refine z_iload C dX4_egg_106 rfl ?_
                refine z_iconst (v := 1) C dX4_egg_108 (by decide) ?_
                refine z_iadd (w := nI (48 * N + 6 * gs.length + 1)) C dX4_egg_109 (nI_add (48 * N + 6 * gs.length) 1) ?_
                refine z_iload_n C dX4_egg_110 rfl rfl ?_
                obtain ⟨f3, hf3⟩ : ∃ q_ : Nat → Int32, q_ = upd f1 (48 * N + 6 * gs.length + 1) p3 := ⟨_, rfl⟩
                refine z_iast (m := (48 * N + 6 * gs.length + 1)) (Γ2 := [eO a 4 [.ref o.sa, .ref o.pa, .ref o.ha, .ref o.xa, .int pn2, .int o.ru, .ref o.ta, .int o.ty, .int o.sp, .int o.fr, .int o.re, .int o.ca, .int o.os, .int o.od, .ref o.na], eIA E o.sa 311 f3, eIA E o.pa 1244 h2, rs]) 1 C dX4_egg_111 rfl rfl (by omega) (by decide) (by rw [hf3]; rfl) ?_
                have R4 : rP f f3 N lv gs A.cs A.bs (gTF A) A.st := by rw [hf3]; exact rP_new 1 _ (by decide) hl8 hz R2
                refine z_aload_n C dX4_egg_112 rfl rfl ?_
                refine z_get eK4 0 0 C dX4_egg_113 rfl rfl q1671 (eSame1 rfl) (by decide) rfl ?_
                refine z_iload C dX4_egg_116 rfl ?_
                refine z_iconst (v := 2) C dX4_egg_118 (by decide) ?_
                refine z_iadd (w := nI (48 * N + 6 * gs.length + 2)) C dX4_egg_119 (nI_add (48 * N + 6 * gs.length) 2) ?_
                refine z_iload C dX4_egg_120 rfl ?_
                obtain ⟨f5, hf5⟩ : ∃ q_ : Nat → Int32, q_ = upd f3 (48 * N + 6 * gs.length + 2) p4 := ⟨_, rfl⟩
                refine z_iast (m := (48 * N + 6 * gs.length + 2)) (Γ2 := [eO a 4 [.ref o.sa, .ref o.pa, .ref o.ha, .ref o.xa, .int pn2, .int o.ru, .ref o.ta, .int o.ty, .int o.sp, .int o.fr, .int o.re, .int o.ca, .int o.os, .int o.od, .ref o.na], eIA E o.sa 311 f5, eIA E o.pa 1244 h2, rs]) 1 C dX4_egg_122 rfl rfl (by omega) (by decide) (by rw [hf5]; rfl) ?_
                have R6 : rP f f5 N lv gs A.cs A.bs (gTF A) A.st := by rw [hf5]; exact rP_new 2 _ (by decide) hl8 hz R4
                refine z_aload_n C dX4_egg_123 rfl rfl ?_
                refine z_get eK4 0 0 C dX4_egg_124 rfl rfl q1671 (eSame1 rfl) (by decide) rfl ?_
                refine z_iload C dX4_egg_127 rfl ?_
                refine z_iconst (v := 3) C dX4_egg_129 (by decide) ?_
                refine z_iadd (w := nI (48 * N + 6 * gs.length + 3)) C dX4_egg_130 (nI_add (48 * N + 6 * gs.length) 3) ?_
                refine z_iload C dX4_egg_131 rfl ?_
                obtain ⟨f7, hf7⟩ : ∃ q_ : Nat → Int32, q_ = upd f5 (48 * N + 6 * gs.length + 3) p5 := ⟨_, rfl⟩
                refine z_iast (m := (48 * N + 6 * gs.length + 3)) (Γ2 := [eO a 4 [.ref o.sa, .ref o.pa, .ref o.ha, .ref o.xa, .int pn2, .int o.ru, .ref o.ta, .int o.ty, .int o.sp, .int o.fr, .int o.re, .int o.ca, .int o.os, .int o.od, .ref o.na], eIA E o.sa 311 f7, eIA E o.pa 1244 h2, rs]) 1 C dX4_egg_133 rfl rfl (by omega) (by decide) (by rw [hf7]; rfl) ?_
                have R8 : rP f f7 N lv gs A.cs A.bs (gTF A) A.st := by rw [hf7]; exact rP_new 3 _ (by decide) hl8 hz R6
                refine z_aload_n C dX4_egg_134 rfl rfl ?_
                refine z_get eK4 0 0 C dX4_egg_135 rfl rfl q1671 (eSame1 rfl) (by decide) rfl ?_
                refine z_iload C dX4_egg_138 rfl ?_
                refine z_iconst (v := 4) C dX4_egg_140 (by decide) ?_
                refine z_iadd (w := nI (48 * N + 6 * gs.length + 4)) C dX4_egg_141 (nI_add (48 * N + 6 * gs.length) 4) ?_
                refine z_iload C dX4_egg_142 rfl ?_
                refine z_iconst (v := 1) C dX4_egg_144 (by decide) ?_
                refine z_iadd (w := p6 + 1) C dX4_egg_145 rfl ?_
                obtain ⟨f9, hf9⟩ : ∃ q_ : Nat → Int32, q_ = upd f7 (48 * N + 6 * gs.length + 4) (p6 + 1) := ⟨_, rfl⟩
                refine z_iast (m := (48 * N + 6 * gs.length + 4)) (Γ2 := [eO a 4 [.ref o.sa, .ref o.pa, .ref o.ha, .ref o.xa, .int pn2, .int o.ru, .ref o.ta, .int o.ty, .int o.sp, .int o.fr, .int o.re, .int o.ca, .int o.os, .int o.od, .ref o.na], eIA E o.sa 311 f9, eIA E o.pa 1244 h2, rs]) 1 C dX4_egg_146 rfl rfl (by omega) (by decide) (by rw [hf9]; rfl) ?_
                have R10 : rP f f9 N lv gs A.cs A.bs (gTF A) A.st := by rw [hf9]; exact rP_new 4 _ (by decide) hl8 hz R8
                refine z_aload_n C dX4_egg_147 rfl rfl ?_
                refine z_get eK4 0 0 C dX4_egg_148 rfl rfl q1671 (eSame1 rfl) (by decide) rfl ?_
                refine z_iload C dX4_egg_151 rfl ?_
                refine z_iconst (v := 5) C dX4_egg_153 (by decide) ?_
                refine z_iadd (w := nI (48 * N + 6 * gs.length + 5)) C dX4_egg_154 (nI_add (48 * N + 6 * gs.length) 5) ?_
                refine z_iconst (v := 0) C dX4_egg_155 (by decide) ?_
                obtain ⟨f11, hf11⟩ : ∃ q_ : Nat → Int32, q_ = upd f9 (48 * N + 6 * gs.length + 5) 0 := ⟨_, rfl⟩
                refine z_iast (m := (48 * N + 6 * gs.length + 5)) (Γ2 := [eO a 4 [.ref o.sa, .ref o.pa, .ref o.ha, .ref o.xa, .int pn2, .int o.ru, .ref o.ta, .int o.ty, .int o.sp, .int o.fr, .int o.re, .int o.ca, .int o.os, .int o.od, .ref o.na], eIA E o.sa 311 f11, eIA E o.pa 1244 h2, rs]) 1 C dX4_egg_156 rfl rfl (by omega) (by decide) (by rw [hf11]; rfl) ?_
                have R12 : rP f f11 N lv gs A.cs A.bs (gTF A) A.st := by rw [hf11]; exact rP_new 5 _ (by decide) hl8 hz R10
                have hq : ∀ j, j < 6 → f11 (48 * N + 6 * gs.length + j) = gEF (p2, p3, p5, p6, p4, 0) j := by
                  intro j hj
                  have h9 : j = 0 ∨ j = 1 ∨ j = 2 ∨ j = 3 ∨ j = 4 ∨ j = 5 := by omega
                  rcases h9 with rfl | rfl | rfl | rfl | rfl | rfl
                  · rw [hf11, upd_ne_ (by omega), hf9, upd_ne_ (by omega), hf7, upd_ne_ (by omega), hf5, upd_ne_ (by omega), hf3, upd_ne_ (by omega), hf1]; exact upd_self_ _ _ _
                  · rw [hf11, upd_ne_ (by omega), hf9, upd_ne_ (by omega), hf7, upd_ne_ (by omega), hf5, upd_ne_ (by omega), hf3]; exact upd_self_ _ _ _
                  · rw [hf11, upd_ne_ (by omega), hf9, upd_ne_ (by omega), hf7, upd_ne_ (by omega), hf5]; exact upd_self_ _ _ _
                  · rw [hf11, upd_ne_ (by omega), hf9, upd_ne_ (by omega), hf7]; exact upd_self_ _ _ _
                  · rw [hf11, upd_ne_ (by omega), hf9]; exact upd_self_ _ _ _
                  · rw [hf11]; exact upd_self_ _ _ _
                refine z_aload_n C dX4_egg_157 rfl rfl ?_
                refine z_get eK4 0 0 C dX4_egg_158 rfl rfl q1671 (eSame1 rfl) (by decide) rfl ?_
                refine z_iload_n C dX4_egg_161 rfl rfl ?_
                refine z_callS (As := [.int (nI N)]) (rest := [.ref o.sa]) (Δ := [eO a 4 [.ref o.sa, .ref o.pa, .ref o.ha, .ref o.xa, .int pn2, .int o.ru, .ref o.ta, .int o.ty, .int o.sp, .int o.fr, .int o.re, .int o.ca, .int o.os, .int o.od, .ref o.na], eIA E o.sa 311 f11, eIA E o.pa 1244 h2, rs]) [] [0, 1, 2, 3] 1 (m_MlaneAt hl E N) C dX4_egg_162 rfl rfl rfl q1668 q1669 q67 q1670 (by decide +kernel) rfl (ePm 4 rfl (by decide +kernel)) rfl rfl ⟨Nat.le_of_ble_eq_true rfl, Nat.le_of_ble_eq_true rfl⟩ (Nat.le_trans (eSm rfl eS0) (Nat.le_of_ble_eq_true rfl)) ⟨Nat.le_of_ble_eq_true rfl, Nat.le_of_ble_eq_true rfl⟩ (fun v_ Γ_ hp_ => ?_)
                obtain ⟨rfl, rfl⟩ := hp_
                show eZ x E _ [eO a 4 [.ref o.sa, .ref o.pa, .ref o.ha, .ref o.xa, .int pn2, .int o.ru, .ref o.ta, .int o.ty, .int o.sp, .int o.fr, .int o.re, .int o.ca, .int o.os, .int o.od, .ref o.na], eIA E o.sa 311 f11, eIA E o.pa 1244 h2, rs] 165 [some (.ref a), some (.int (nI N)), some (.int p2), some (.int p3), some (.int p4), some (.int p5), some (.int p6), some (.int (nI (48 * N + 6 * gs.length)))] [.int (nI (192 + 6 * N)), .ref o.sa] 0 0
                refine z_iconst (v := 0) C dX4_egg_165 (by decide) ?_
                refine z_iadd (w := nI (192 + 6 * N)) C dX4_egg_166 (nI_add (192 + 6 * N) 0) ?_
                refine z_dup2 C dX4_egg_167 rfl rfl ?_
                refine z_iald (m := (192 + 6 * N)) (v := nI gs.length) 1 C dX4_egg_168 rfl rfl (by omega) (by decide) R12.1.1 ?_
                refine z_iconst (v := 1) C dX4_egg_169 (by decide) ?_
                refine z_iadd (w := nI (gs.length + 1)) C dX4_egg_170 (nI_add gs.length 1) ?_
                obtain ⟨f13, hf13⟩ : ∃ q_ : Nat → Int32, q_ = upd f11 (192 + 6 * N) (nI (gs.length + 1)) := ⟨_, rfl⟩
                refine z_iast (m := (192 + 6 * N)) (Γ2 := [eO a 4 [.ref o.sa, .ref o.pa, .ref o.ha, .ref o.xa, .int pn2, .int o.ru, .ref o.ta, .int o.ty, .int o.sp, .int o.fr, .int o.re, .int o.ca, .int o.os, .int o.od, .ref o.na], eIA E o.sa 311 f13, eIA E o.pa 1244 h2, rs]) 1 C dX4_egg_171 rfl rfl (by omega) (by decide) (by rw [hf13]; rfl) ?_
                have R14 : rP f f13 N lv (gs ++ [(p2, p3, p5, p6, p4, 0)]) A.cs A.bs (gTF A) A.st := by rw [hf13]; exact rP_app (p2, p3, p5, p6, p4, 0) hq hl8 hz R12
                have hz9 : rZ N (gs ++ [(p2, p3, p5, p6, p4, 0)]) A.cs A.bs := ⟨hN4, by rw [List.length_append]; show gs.length + 1 ≤ 8; omega, hz.2.2⟩
                refine z_aload_n C dX4_egg_172 rfl rfl ?_
                refine z_get eK4 0 0 C dX4_egg_173 rfl rfl q1671 (eSame1 rfl) (by decide) rfl ?_
                refine z_sipush (v := 297) C dX4_egg_176 (by decide) ?_
                refine z_dup2 C dX4_egg_179 rfl rfl ?_
                refine z_iald (m := 297) (v := A.u.cm) 1 C dX4_egg_180 rfl rfl (by omega) (by decide) (R14.2.2.2.2.1 1 (by decide)) ?_
                refine z_iconst (v := 1) C dX4_egg_181 (by decide) ?_
                refine z_iadd (w := A.u.cm + 1) C dX4_egg_182 rfl ?_
                obtain ⟨f15, hf15⟩ : ∃ q_ : Nat → Int32, q_ = upd f13 297 (A.u.cm + 1) := ⟨_, rfl⟩
                refine z_iast (m := 297) (Γ2 := [eO a 4 [.ref o.sa, .ref o.pa, .ref o.ha, .ref o.xa, .int pn2, .int o.ru, .ref o.ta, .int o.ty, .int o.sp, .int o.fr, .int o.re, .int o.ca, .int o.os, .int o.od, .ref o.na], eIA E o.sa 311 f15, eIA E o.pa 1244 h2, rs]) 1 C dX4_egg_183 rfl rfl (by omega) (by decide) (by rw [hf15]; rfl) ?_
                have R16 : rP f f15 N lv (gs ++ [(p2, p3, p5, p6, p4, 0)]) A.cs A.bs (upd (gTF A) 1 (A.u.cm + 1)) A.st := by rw [hf15]; exact rP_t 1 _ (by decide) hz9 R14
                refine z_aload_n C dX4_egg_184 rfl rfl ?_
                refine z_iload_n C dX4_egg_185 rfl rfl ?_
                refine z_callV (r := (RX4, TX4, 15)) (As := [.int (nI N)]) (rest := []) (Δ := [eIA E o.pa 1244 h2, rs]) [0, 1] [2, 3] 1 (m_Mmany hl E a (o.sa, o.pa, o.ha, o.xa, pn2, o.ru, o.ta, o.ty, o.sp, o.fr, o.re, o.ca, o.os, o.od, o.na) f15 N hN4 lv (gs ++ [(p2, p3, p5, p6, p4, 0)]) R16.1) C dX4_egg_186 rfl rfl (eIn (i := 0) rfl List.mem_cons_self) rfl rfl q1728 q1730 qs27 q67 q1731 (by decide +kernel) rfl (ePm 4 rfl (by decide +kernel)) rfl rfl ⟨Nat.le_of_ble_eq_true rfl, Nat.le_of_ble_eq_true rfl⟩ (Nat.le_trans eS0 (Nat.le_of_ble_eq_true rfl)) ⟨Nat.le_of_ble_eq_true rfl, Nat.le_of_ble_eq_true rfl⟩ (fun v_ Γ_ hp_ => ?_)
                obtain ⟨rfl, rfl⟩ := hp_
                show eZ x E _ [eO a 4 [.ref o.sa, .ref o.pa, .ref o.ha, .ref o.xa, .int pn2, .int o.ru, .ref o.ta, .int o.ty, .int o.sp, .int o.fr, .int o.re, .int o.ca, .int o.os, .int o.od, .ref o.na], eIA E o.sa 311 f15, eIA E o.pa 1244 h2, rs] 189 [some (.ref a), some (.int (nI N)), some (.int p2), some (.int p3), some (.int p4), some (.int p5), some (.int p6), some (.int (nI (48 * N + 6 * gs.length)))] [.int (nI (gs ++ [(p2, p3, p5, p6, p4, 0)]).length)] 0 0
                refine z_is (w := nI (gs.length + 1)) (by rw [List.length_append]; rfl) ?_
                subst hQ_
                exact z_ret (Γ := [eO a 4 [.ref o.sa, .ref o.pa, .ref o.ha, .ref o.xa, .int pn2, .int o.ru, .ref o.ta, .int o.ty, .int o.sp, .int o.fr, .int o.re, .int o.ca, .int o.os, .int o.od, .ref o.na], eIA E o.sa 311 f15, eIA E o.pa 1244 h2]) C dX4_egg_189 rfl rfl (Nat.le_of_ble_eq_true rfl) (Nat.le_of_ble_eq_true rfl) ⟨_, h2, pn2, by rw [hr]; rfl, rfl, by rw [hr]; exact rP_to R hok hN4 R16 rfl rfl rfl rfl (gTF_E A (y := (lv, gs ++ [(p2, p3, p5, p6, p4, 0)])) hx rfl), by rw [hr]; exact hH2⟩
              · have hl8 : gs.length = 8 := (nI_eq (a := gs.length) (b := 8) (by omega) (by decide)).mp k1
                have hr : gPuts A (nI N) (p2, p3, p5, p6, p4, 0) = .inl (-1000003) := by unfold gPuts; rw [hb, hgo, gL_at hN4 hx]; exact if_neg (by show ¬ gs.length < 8; omega)
                refine z_ldc C dX4_egg_74 rfl q1732 ?_
                subst hQ_
                exact z_ret (Γ := [eO a 4 [.ref o.sa, .ref o.pa, .ref o.ha, .ref o.xa, .int o.pn, .int o.ru, .ref o.ta, .int o.ty, .int o.sp, .int o.fr, .int o.re, .int o.ca, .int o.os, .int o.od, .ref o.na], eIA E o.sa 311 f, eIA E o.pa 1244 h]) C dX4_egg_76 rfl rfl (Nat.le_of_ble_eq_true rfl) (Nat.le_of_ble_eq_true rfl) ⟨f, h, o.pn, by rw [hr]; rfl, rfl, by rw [hr]; exact R, by rw [hr]; exact hH⟩
            · have hr : gPuts A ln (p2, p3, p5, p6, p4, 0) = .inl (-1000001) := by unfold gPuts; rw [hg, b0, b1, b2, b3, b4, b5]; rfl
              refine z_ldc C dX4_egg_61 rfl q1727 ?_
              subst hQ_
              exact z_ret (Γ := [eO a 4 [.ref o.sa, .ref o.pa, .ref o.ha, .ref o.xa, .int o.pn, .int o.ru, .ref o.ta, .int o.ty, .int o.sp, .int o.fr, .int o.re, .int o.ca, .int o.os, .int o.od, .ref o.na], eIA E o.sa 311 f, eIA E o.pa 1244 h]) C dX4_egg_63 rfl rfl (Nat.le_of_ble_eq_true rfl) (Nat.le_of_ble_eq_true rfl) ⟨f, h, o.pn, by rw [hr]; rfl, rfl, by rw [hr]; exact R, by rw [hr]; exact hH⟩

set_option maxHeartbeats 4000000 in
theorem m_Mstain {l : Launch} (hl : l.stackTraces = false) (E : eEn) (a : Nat) (o : Mo) (f : Nat → Int32) (A : Am) (hok : gOk A) (R : Rep f A) (h : Nat → Int32) (hs : List Am) (hH : rH h o.pn hs) (hoks : ∀ B ∈ hs, gOk B) (hru : o.ru = 0 ∨ o.ru = 1) (ln v : Int32) : eMet l E yX4_stain (ws_ yX4_stain cX4_stain 4 (some .int)) ({ frames := 2, cells := 0, slots := 0, locals := 42 }) [.ref a, .int ln, .int v] [eO a 4 [.ref o.sa, .ref o.pa, .ref o.ha, .ref o.xa, .int o.pn, .int o.ru, .ref o.ta, .int o.ty, .int o.sp, .int o.fr, .int o.re, .int o.ca, .int o.os, .int o.od, .ref o.na], eIA E o.sa 311 f, eIA E o.pa 1244 h] (mPost E a o A hs (gSpots A ln v)) := by
  refine eStart (cc := cX4_stain) (nL := 4) (L := [some (.ref a), some (.int ln), some (.int v), none]) hl (by decide) rfl (List.forall_mem_cons.mpr ⟨rfl, (List.forall_mem_cons.mpr ⟨rfl, (List.forall_mem_cons.mpr ⟨rfl, (fun _ h => absurd h List.not_mem_nil)⟩)⟩)⟩) (Nat.le_of_ble_eq_true rfl) ?_
  intro x rs C
  show eZ x E (eQ x E (mPost E a o A hs (gSpots A ln v)) rs) [eO a 4 [.ref o.sa, .ref o.pa, .ref o.ha, .ref o.xa, .int o.pn, .int o.ru, .ref o.ta, .int o.ty, .int o.sp, .int o.fr, .int o.re, .int o.ca, .int o.os, .int o.od, .ref o.na], eIA E o.sa 311 f, eIA E o.pa 1244 h, rs] 0 [some (.ref a), some (.int ln), some (.int v), none] [] 0 0
  generalize hQ_ : eQ x E (mPost E a o A hs (gSpots A ln v)) rs = Q_
  refine z_iload_n C dX4_stain_0 rfl rfl ?_
  refine z_callS (As := [.int ln]) (rest := []) (Δ := [eO a 4 [.ref o.sa, .ref o.pa, .ref o.ha, .ref o.xa, .int o.pn, .int o.ru, .ref o.ta, .int o.ty, .int o.sp, .int o.fr, .int o.re, .int o.ca, .int o.os, .int o.od, .ref o.na], eIA E o.sa 311 f, eIA E o.pa 1244 h, rs]) [] [0, 1, 2, 3] 1 (m_MisLane hl E ln) C dX4_stain_1 rfl rfl rfl q1721 q1722 q67 q1723 (by decide +kernel) rfl (ePm 4 rfl (by decide +kernel)) rfl rfl ⟨Nat.le_of_ble_eq_true rfl, Nat.le_of_ble_eq_true rfl⟩ (Nat.le_trans eS0 (Nat.le_of_ble_eq_true rfl)) ⟨Nat.le_of_ble_eq_true rfl, Nat.le_of_ble_eq_true rfl⟩ (fun v_ Γ_ hp_ => ?_)
  obtain ⟨rfl, rfl⟩ := hp_
  show eZ x E _ [eO a 4 [.ref o.sa, .ref o.pa, .ref o.ha, .ref o.xa, .int o.pn, .int o.ru, .ref o.ta, .int o.ty, .int o.sp, .int o.fr, .int o.re, .int o.ca, .int o.os, .int o.od, .ref o.na], eIA E o.sa 311 f, eIA E o.pa 1244 h, rs] 4 [some (.ref a), some (.int ln), some (.int v), none] [.int (eB (eBt ln 0 3))] 0 0
  refine z_if_eq_B 18 C dX4_stain_4 (by decide) (fun h1 => ?_) (fun h1 => ?_)
  · have hr : gSpots A ln v = .inl (-1000001) := by unfold gSpots; rw [h1]; rfl
    refine z_ldc C dX4_stain_18 rfl q1727 ?_
    subst hQ_
    exact z_ret (Γ := [eO a 4 [.ref o.sa, .ref o.pa, .ref o.ha, .ref o.xa, .int o.pn, .int o.ru, .ref o.ta, .int o.ty, .int o.sp, .int o.fr, .int o.re, .int o.ca, .int o.os, .int o.od, .ref o.na], eIA E o.sa 311 f, eIA E o.pa 1244 h]) C dX4_stain_20 rfl rfl (Nat.le_of_ble_eq_true rfl) (Nat.le_of_ble_eq_true rfl) ⟨f, h, o.pn, by rw [hr]; rfl, rfl, by rw [hr]; exact R, by rw [hr]; exact hH⟩
  · refine z_iload_n C dX4_stain_7 rfl rfl ?_
    refine z_iconst (v := 0) C dX4_stain_8 (by decide) ?_
    refine z_sipush (v := 255) C dX4_stain_9 (by decide) ?_
    refine z_callS (As := [.int v, .int 0, .int 255]) (rest := []) (Δ := [eO a 4 [.ref o.sa, .ref o.pa, .ref o.ha, .ref o.xa, .int o.pn, .int o.ru, .ref o.ta, .int o.ty, .int o.sp, .int o.fr, .int o.re, .int o.ca, .int o.os, .int o.od, .ref o.na], eIA E o.sa 311 f, eIA E o.pa 1244 h, rs]) [] [0, 1, 2, 3] 3 (m_Min hl E v 0 255) C dX4_stain_12 rfl rfl rfl q1724 q1725 q67 q1726 (by decide +kernel) rfl (ePm 4 rfl (by decide +kernel)) rfl rfl ⟨Nat.le_of_ble_eq_true rfl, Nat.le_of_ble_eq_true rfl⟩ (Nat.le_trans eS0 (Nat.le_of_ble_eq_true rfl)) ⟨Nat.le_of_ble_eq_true rfl, Nat.le_of_ble_eq_true rfl⟩ (fun v_ Γ_ hp_ => ?_)
    obtain ⟨rfl, rfl⟩ := hp_
    show eZ x E _ [eO a 4 [.ref o.sa, .ref o.pa, .ref o.ha, .ref o.xa, .int o.pn, .int o.ru, .ref o.ta, .int o.ty, .int o.sp, .int o.fr, .int o.re, .int o.ca, .int o.os, .int o.od, .ref o.na], eIA E o.sa 311 f, eIA E o.pa 1244 h, rs] 15 [some (.ref a), some (.int ln), some (.int v), none] [.int (eB (eBt v 0 255))] 0 0
    refine z_if_ne_B 21 C dX4_stain_15 (by decide) (fun h2 => ?_) (fun h2 => ?_)
    · have hb := h1
      obtain ⟨N, hN, rfl⟩ := eBt_N (h1)
      have hN4 : N < 4 := Nat.lt_succ_of_le hN
      obtain ⟨⟨lv, gs⟩, hx⟩ : ∃ q_, A.ls[N]? = some q_ := ⟨_, List.getElem?_eq_getElem (by rw [hok.1]; exact hN4)⟩
      have h8 : gs.length ≤ 8 := hok.2.1 _ (List.mem_of_getElem? hx)
      have hz : rZ N gs A.cs A.bs := ⟨hN4, h8, Nat.le_of_eq hok.2.2.1, hok.2.2.2.1⟩
      have R0 : rP f f N lv gs A.cs A.bs (gTF A) A.st := rP_of R hx
      show eZ x E _ [eO a 4 [.ref o.sa, .ref o.pa, .ref o.ha, .ref o.xa, .int o.pn, .int o.ru, .ref o.ta, .int o.ty, .int o.sp, .int o.fr, .int o.re, .int o.ca, .int o.os, .int o.od, .ref o.na], eIA E o.sa 311 f, eIA E o.pa 1244 h, rs] 21 [some (.ref a), some (.int (nI N)), some (.int v), none] [] 0 0
      refine z_aload_n C dX4_stain_21 rfl rfl ?_
      refine z_iload_n C dX4_stain_22 rfl rfl ?_
      refine z_callV (r := (RX4, TX4, 15)) (As := [.int (nI N)]) (rest := []) (Δ := [eIA E o.pa 1244 h, rs]) [0, 1] [2, 3] 1 (m_Mmany hl E a o f N hN4 lv gs R0.1) C dX4_stain_23 rfl rfl (eIn (i := 0) rfl List.mem_cons_self) rfl rfl q1728 q1730 qs27 q67 q1731 (by decide +kernel) rfl (ePm 4 rfl (by decide +kernel)) rfl rfl ⟨Nat.le_of_ble_eq_true rfl, Nat.le_of_ble_eq_true rfl⟩ (Nat.le_trans eS0 (Nat.le_of_ble_eq_true rfl)) ⟨Nat.le_of_ble_eq_true rfl, Nat.le_of_ble_eq_true rfl⟩ (fun v_ Γ_ hp_ => ?_)
      obtain ⟨rfl, rfl⟩ := hp_
      show eZ x E _ [eO a 4 [.ref o.sa, .ref o.pa, .ref o.ha, .ref o.xa, .int o.pn, .int o.ru, .ref o.ta, .int o.ty, .int o.sp, .int o.fr, .int o.re, .int o.ca, .int o.os, .int o.od, .ref o.na], eIA E o.sa 311 f, eIA E o.pa 1244 h, rs] 26 [some (.ref a), some (.int (nI N)), some (.int v), none] [.int (nI gs.length)] 0 0
      refine z_if_ne 32 C dX4_stain_26 (by decide) (fun h3 => ?_) (fun h3 => ?_)
      · obtain ⟨us, g, rfl⟩ : ∃ us g, gs = us ++ [g] := by
          rcases List.eq_nil_or_concat gs with h | ⟨us, g, h⟩
          · rw [h] at h3; exact absurd rfl h3
          · exact ⟨us, g, by rw [h, List.concat_eq_append]⟩
        have hlen : (us ++ [g]).length = us.length + 1 := by rw [List.length_append]; rfl
        have hul : us.length + 1 ≤ 8 := by rw [← hlen]; exact h8
        have hgp : (us ++ [g])[us.length]? = some g := by rw [List.getElem?_append_right (Nat.le_refl _), Nat.sub_self]; rfl
        have hr : gSpots A (nI N) v = .inr (g.sp ||| v, (A.ls.set N (lv, us ++ [gSpE v g]), A.cs, A.bs, A.st, A.u)) := by unfold gSpots; rw [hb, h2, gL_at hN4 hx, gSpL_sn, gSetL_at hN4]; show (if (us ++ [g]).isEmpty = true then _ else _) = _; rw [if_neg (by cases us <;> exact fun h => by cases h)]
        refine z_aload_n C dX4_stain_32 rfl rfl ?_
        refine z_callV (r := (RX4, TX4, 15)) (As := []) (rest := []) (Δ := [rs]) [0, 1, 2] [3] 0 (m_Mchanges hl E a o f A hok R h hs hH hoks hru) C dX4_stain_33 rfl rfl (eIn (i := 0) rfl List.mem_cons_self) rfl rfl q1733 q1735 qs28 q67 q1736 (by decide +kernel) rfl (ePm 4 rfl (by decide +kernel)) rfl rfl ⟨Nat.le_of_ble_eq_true rfl, Nat.le_of_ble_eq_true rfl⟩ (Nat.le_trans eS0 (Nat.le_of_ble_eq_true rfl)) ⟨Nat.le_of_ble_eq_true rfl, Nat.le_of_ble_eq_true rfl⟩ (fun v_ Γ_ hp_ => ?_)
        obtain ⟨rfl, h2, pn2, rfl, hH2⟩ := hp_
        show eZ x E _ [eO a 4 [.ref o.sa, .ref o.pa, .ref o.ha, .ref o.xa, .int pn2, .int o.ru, .ref o.ta, .int o.ty, .int o.sp, .int o.fr, .int o.re, .int o.ca, .int o.os, .int o.od, .ref o.na], eIA E o.sa 311 f, eIA E o.pa 1244 h2, rs] 36 [some (.ref a), some (.int (nI N)), some (.int v), none] [] 0 0
        refine z_iload_n C dX4_stain_36 rfl rfl ?_
        refine z_aload_n C dX4_stain_37 rfl rfl ?_
        refine z_iload_n C dX4_stain_38 rfl rfl ?_
        refine z_callV (r := (RX4, TX4, 15)) (As := [.int (nI N)]) (rest := [.int (nI N)]) (Δ := [eIA E o.pa 1244 h2, rs]) [0, 1] [2, 3] 1 (m_Mmany hl E a (o.sa, o.pa, o.ha, o.xa, pn2, o.ru, o.ta, o.ty, o.sp, o.fr, o.re, o.ca, o.os, o.od, o.na) f N hN4 lv (us ++ [g]) R0.1) C dX4_stain_39 rfl rfl (eIn (i := 0) rfl List.mem_cons_self) rfl rfl q1728 q1730 qs27 q67 q1731 (by decide +kernel) rfl (ePm 4 rfl (by decide +kernel)) rfl rfl ⟨Nat.le_of_ble_eq_true rfl, Nat.le_of_ble_eq_true rfl⟩ (Nat.le_trans (eSm rfl eS0) (Nat.le_of_ble_eq_true rfl)) ⟨Nat.le_of_ble_eq_true rfl, Nat.le_of_ble_eq_true rfl⟩ (fun v_ Γ_ hp_ => ?_)
        obtain ⟨rfl, rfl⟩ := hp_
        show eZ x E _ [eO a 4 [.ref o.sa, .ref o.pa, .ref o.ha, .ref o.xa, .int pn2, .int o.ru, .ref o.ta, .int o.ty, .int o.sp, .int o.fr, .int o.re, .int o.ca, .int o.os, .int o.od, .ref o.na], eIA E o.sa 311 f, eIA E o.pa 1244 h2, rs] 42 [some (.ref a), some (.int (nI N)), some (.int v), none] [.int (nI (us ++ [g]).length), .int (nI N)] 0 0
        refine z_iconst (v := 1) C dX4_stain_42 (by decide) ?_
        refine z_isub (w := nI us.length) C dX4_stain_43 (by rw [hlen]; exact nI_pred us.length) ?_
        refine z_callS (As := [.int (nI N), .int (nI us.length)]) (rest := []) (Δ := [eO a 4 [.ref o.sa, .ref o.pa, .ref o.ha, .ref o.xa, .int pn2, .int o.ru, .ref o.ta, .int o.ty, .int o.sp, .int o.fr, .int o.re, .int o.ca, .int o.os, .int o.od, .ref o.na], eIA E o.sa 311 f, eIA E o.pa 1244 h2, rs]) [] [0, 1, 2, 3] 2 (m_MeggAt hl E N us.length) C dX4_stain_44 rfl rfl rfl q1737 q1738 q67 q1739 (by decide +kernel) rfl (ePm 4 rfl (by decide +kernel)) rfl rfl ⟨Nat.le_of_ble_eq_true rfl, Nat.le_of_ble_eq_true rfl⟩ (Nat.le_trans eS0 (Nat.le_of_ble_eq_true rfl)) ⟨Nat.le_of_ble_eq_true rfl, Nat.le_of_ble_eq_true rfl⟩ (fun v_ Γ_ hp_ => ?_)
        obtain ⟨rfl, rfl⟩ := hp_
        show eZ x E _ [eO a 4 [.ref o.sa, .ref o.pa, .ref o.ha, .ref o.xa, .int pn2, .int o.ru, .ref o.ta, .int o.ty, .int o.sp, .int o.fr, .int o.re, .int o.ca, .int o.os, .int o.od, .ref o.na], eIA E o.sa 311 f, eIA E o.pa 1244 h2, rs] 47 [some (.ref a), some (.int (nI N)), some (.int v), none] [.int (nI (48 * N + 6 * us.length))] 0 0
        refine z_istore_n (L2 := [some (.ref a), some (.int (nI N)), some (.int v), some (.int (nI (48 * N + 6 * us.length)))]) C dX4_stain_47 rfl (Nat.le_of_ble_eq_true rfl) rfl ?_
        refine z_aload_n C dX4_stain_48 rfl rfl ?_
        refine z_get eK4 0 0 C dX4_stain_49 rfl rfl q1671 (eSame1 rfl) (by decide) rfl ?_
        refine z_iload_n C dX4_stain_52 rfl rfl ?_
        refine z_iconst (v := 2) C dX4_stain_53 (by decide) ?_
        refine z_iadd (w := nI (48 * N + 6 * us.length + 2)) C dX4_stain_54 (nI_add (48 * N + 6 * us.length) 2) ?_
        refine z_dup2 C dX4_stain_55 rfl rfl ?_
        refine z_iald (m := (48 * N + 6 * us.length + 2)) (v := g.sp) 1 C dX4_stain_56 rfl rfl (by omega) (by decide) (R0.1.2.2 us.length g hgp 2 (by decide)) ?_
        refine z_iload_n C dX4_stain_57 rfl rfl ?_
        refine z_ior (w := g.sp ||| v) C dX4_stain_58 rfl ?_
        obtain ⟨f1, hf1⟩ : ∃ q_ : Nat → Int32, q_ = upd f (48 * N + 6 * us.length + 2) (g.sp ||| v) := ⟨_, rfl⟩
        refine z_iast (m := (48 * N + 6 * us.length + 2)) (Γ2 := [eO a 4 [.ref o.sa, .ref o.pa, .ref o.ha, .ref o.xa, .int pn2, .int o.ru, .ref o.ta, .int o.ty, .int o.sp, .int o.fr, .int o.re, .int o.ca, .int o.os, .int o.od, .ref o.na], eIA E o.sa 311 f1, eIA E o.pa 1244 h2, rs]) 1 C dX4_stain_59 rfl rfl (by omega) (by decide) (by rw [hf1]; rfl) ?_
        have R2 : rP f f1 N lv (us ++ [gSpE v g]) A.cs A.bs (gTF A) A.st := by rw [hf1]; exact (set_last_ us g (gSpE v g)) ▸ rP_e us.length g (gSpE v g) hgp 2 _ (by decide) (by intro i h2; have h : i = 0 ∨ i = 1 ∨ i = 2 ∨ i = 3 ∨ i = 4 ∨ i = 5 := (by omega); rcases h with rfl | rfl | rfl | rfl | rfl | rfl <;> rfl) hz R0
        refine z_aload_n C dX4_stain_60 rfl rfl ?_
        refine z_get eK4 0 0 C dX4_stain_61 rfl rfl q1671 (eSame1 rfl) (by decide) rfl ?_
        refine z_iload_n C dX4_stain_64 rfl rfl ?_
        refine z_iconst (v := 2) C dX4_stain_65 (by decide) ?_
        refine z_iadd (w := nI (48 * N + 6 * us.length + 2)) C dX4_stain_66 (nI_add (48 * N + 6 * us.length) 2) ?_
        refine z_iald (m := (48 * N + 6 * us.length + 2)) (v := g.sp ||| v) 1 C dX4_stain_67 rfl rfl (by omega) (by decide) (R2.1.2.2 us.length (gSpE v g) (by rw [List.getElem?_append_right (Nat.le_refl _), Nat.sub_self]; rfl) 2 (by decide)) ?_
        subst hQ_
        exact z_ret (Γ := [eO a 4 [.ref o.sa, .ref o.pa, .ref o.ha, .ref o.xa, .int pn2, .int o.ru, .ref o.ta, .int o.ty, .int o.sp, .int o.fr, .int o.re, .int o.ca, .int o.os, .int o.od, .ref o.na], eIA E o.sa 311 f1, eIA E o.pa 1244 h2]) C dX4_stain_68 rfl rfl (Nat.le_of_ble_eq_true rfl) (Nat.le_of_ble_eq_true rfl) ⟨_, h2, pn2, by rw [hr]; rfl, rfl, by rw [hr]; exact rP_to R hok hN4 R2 rfl rfl rfl rfl (gTF_A A (y := (lv, us ++ [gSpE v g])) hx rfl), by rw [hr]; exact hH2⟩
      · have hn0 : gs = [] := by cases gs with | nil => rfl | cons g t => exact absurd h3 (nI_ne0 (by rw [List.length_cons]; omega) (by omega))
        have hr : gSpots A (nI N) v = .inl (-1000002) := by unfold gSpots; rw [hb, h2, gL_at hN4 hx, hn0]; rfl
        refine z_ldc C dX4_stain_29 rfl q1744 ?_
        subst hQ_
        exact z_ret (Γ := [eO a 4 [.ref o.sa, .ref o.pa, .ref o.ha, .ref o.xa, .int o.pn, .int o.ru, .ref o.ta, .int o.ty, .int o.sp, .int o.fr, .int o.re, .int o.ca, .int o.os, .int o.od, .ref o.na], eIA E o.sa 311 f, eIA E o.pa 1244 h]) C dX4_stain_31 rfl rfl (Nat.le_of_ble_eq_true rfl) (Nat.le_of_ble_eq_true rfl) ⟨f, h, o.pn, by rw [hr]; rfl, rfl, by rw [hr]; exact R, by rw [hr]; exact hH⟩
    · have hr : gSpots A ln v = .inl (-1000001) := by unfold gSpots; rw [h1, h2]; rfl
      refine z_ldc C dX4_stain_18 rfl q1727 ?_
      subst hQ_
      exact z_ret (Γ := [eO a 4 [.ref o.sa, .ref o.pa, .ref o.ha, .ref o.xa, .int o.pn, .int o.ru, .ref o.ta, .int o.ty, .int o.sp, .int o.fr, .int o.re, .int o.ca, .int o.os, .int o.od, .ref o.na], eIA E o.sa 311 f, eIA E o.pa 1244 h]) C dX4_stain_20 rfl rfl (Nat.le_of_ble_eq_true rfl) (Nat.le_of_ble_eq_true rfl) ⟨f, h, o.pn, by rw [hr]; rfl, rfl, by rw [hr]; exact R, by rw [hr]; exact hH⟩

set_option maxHeartbeats 4000000 in
theorem m_Mset {l : Launch} (hl : l.stackTraces = false) (E : eEn) (a : Nat) (o : Mo) (f : Nat → Int32) (A : Am) (hok : gOk A) (R : Rep f A) (h : Nat → Int32) (hs : List Am) (hH : rH h o.pn hs) (hoks : ∀ B ∈ hs, gOk B) (hru : o.ru = 0 ∨ o.ru = 1) (wh v : Int32) : eMet l E yX4_set (ws_ yX4_set cX4_set 4 (some .int)) ({ frames := 1, cells := 0, slots := 0, locals := 22 }) [.ref a, .int wh, .int v] [eO a 4 [.ref o.sa, .ref o.pa, .ref o.ha, .ref o.xa, .int o.pn, .int o.ru, .ref o.ta, .int o.ty, .int o.sp, .int o.fr, .int o.re, .int o.ca, .int o.os, .int o.od, .ref o.na], eIA E o.sa 311 f, eIA E o.pa 1244 h] (mPost E a o A hs (gSets A wh v)) := by
  refine eStart (cc := cX4_set) (nL := 4) (L := [some (.ref a), some (.int wh), some (.int v), none]) hl (by decide) rfl (List.forall_mem_cons.mpr ⟨rfl, (List.forall_mem_cons.mpr ⟨rfl, (List.forall_mem_cons.mpr ⟨rfl, (fun _ h => absurd h List.not_mem_nil)⟩)⟩)⟩) (Nat.le_of_ble_eq_true rfl) ?_
  intro x rs C
  show eZ x E (eQ x E (mPost E a o A hs (gSets A wh v)) rs) [eO a 4 [.ref o.sa, .ref o.pa, .ref o.ha, .ref o.xa, .int o.pn, .int o.ru, .ref o.ta, .int o.ty, .int o.sp, .int o.fr, .int o.re, .int o.ca, .int o.os, .int o.od, .ref o.na], eIA E o.sa 311 f, eIA E o.pa 1244 h, rs] 0 [some (.ref a), some (.int wh), some (.int v), none] [] 0 0
  generalize hQ_ : eQ x E (mPost E a o A hs (gSets A wh v)) rs = Q_
  refine z_iload_n C dX4_set_0 rfl rfl ?_
  refine z_iconst (v := 0) C dX4_set_1 (by decide) ?_
  refine z_iconst (v := 3) C dX4_set_2 (by decide) ?_
  refine z_callS (As := [.int wh, .int 0, .int 3]) (rest := []) (Δ := [eO a 4 [.ref o.sa, .ref o.pa, .ref o.ha, .ref o.xa, .int o.pn, .int o.ru, .ref o.ta, .int o.ty, .int o.sp, .int o.fr, .int o.re, .int o.ca, .int o.os, .int o.od, .ref o.na], eIA E o.sa 311 f, eIA E o.pa 1244 h, rs]) [] [0, 1, 2, 3] 3 (m_Min hl E wh 0 3) C dX4_set_3 rfl rfl rfl q1724 q1725 q67 q1726 (by decide +kernel) rfl (ePm 4 rfl (by decide +kernel)) rfl rfl ⟨Nat.le_of_ble_eq_true rfl, Nat.le_of_ble_eq_true rfl⟩ (Nat.le_trans eS0 (Nat.le_of_ble_eq_true rfl)) ⟨Nat.le_of_ble_eq_true rfl, Nat.le_of_ble_eq_true rfl⟩ (fun v_ Γ_ hp_ => ?_)
  obtain ⟨rfl, rfl⟩ := hp_
  show eZ x E _ [eO a 4 [.ref o.sa, .ref o.pa, .ref o.ha, .ref o.xa, .int o.pn, .int o.ru, .ref o.ta, .int o.ty, .int o.sp, .int o.fr, .int o.re, .int o.ca, .int o.os, .int o.od, .ref o.na], eIA E o.sa 311 f, eIA E o.pa 1244 h, rs] 6 [some (.ref a), some (.int wh), some (.int v), none] [.int (eB (eBt wh 0 3))] 0 0
  refine z_if_eq_B 39 C dX4_set_6 (by decide) (fun h1 => ?_) (fun h1 => ?_)
  · have hr : gSets A wh v = .inl (-1000001) := by unfold gSets; rw [h1]; rfl
    refine z_ldc C dX4_set_39 rfl q1727 ?_
    subst hQ_
    exact z_ret (Γ := [eO a 4 [.ref o.sa, .ref o.pa, .ref o.ha, .ref o.xa, .int o.pn, .int o.ru, .ref o.ta, .int o.ty, .int o.sp, .int o.fr, .int o.re, .int o.ca, .int o.os, .int o.od, .ref o.na], eIA E o.sa 311 f, eIA E o.pa 1244 h]) C dX4_set_41 rfl rfl (Nat.le_of_ble_eq_true rfl) (Nat.le_of_ble_eq_true rfl) ⟨f, h, o.pn, by rw [hr]; rfl, rfl, by rw [hr]; exact R, by rw [hr]; exact hH⟩
  · obtain ⟨⟨lv, gs⟩, hx⟩ : ∃ q_, A.ls[0]? = some q_ := ⟨_, List.getElem?_eq_getElem (by rw [hok.1]; decide)⟩
    have hz : rZ 0 gs A.cs A.bs := ⟨by decide, hok.2.1 _ (List.mem_of_getElem? hx), Nat.le_of_eq hok.2.2.1, hok.2.2.2.1⟩
    obtain ⟨N, hN, rfl⟩ := eBt_N h1
    have hN4 : N = 0 ∨ N = 1 ∨ N = 2 ∨ N = 3 := by have : nN 3 = 3 := rfl; omega
    rcases hN4 with rfl | rfl | rfl | rfl
    · show eZ x E _ [eO a 4 [.ref o.sa, .ref o.pa, .ref o.ha, .ref o.xa, .int o.pn, .int o.ru, .ref o.ta, .int o.ty, .int o.sp, .int o.fr, .int o.re, .int o.ca, .int o.os, .int o.od, .ref o.na], eIA E o.sa 311 f, eIA E o.pa 1244 h, rs] 9 [some (.ref a), some (.int (nI 0)), some (.int v), none] [] 0 0
      refine z_iload_n C dX4_set_9 rfl rfl ?_
      refine z_iload_n C dX4_set_10 rfl rfl ?_
      refine z_iconst (v := 2) C dX4_set_11 (by decide) ?_
      refine z_icmp_ge 19 C dX4_set_12 (by decide) (fun h_ => absurd h_ (by decide)) (fun h_ => ?_)
      refine z_iconst (v := 1) C dX4_set_15 (by decide) ?_
      refine z_goto 20 C dX4_set_16 (by decide) ?_
      refine z_iload_n C dX4_set_20 rfl rfl ?_
      refine z_iconst (v := 3) C dX4_set_21 (by decide) ?_
      refine z_irem (w := (nI 0) - (nI 0) / 3 * 3) C dX4_set_22 (by decide) rfl ?_
      refine z_is (w := 0) (by decide) ?_
      refine z_if_ne 31 C dX4_set_23 (by decide) (fun h_ => absurd h_ (by decide)) (fun h_ => ?_)
      refine z_bipush (v := 8) C dX4_set_26 (by decide) ?_
      refine z_goto 33 C dX4_set_28 (by decide) ?_
      refine z_callS (As := [.int v, .int 1, .int 8]) (rest := []) (Δ := [eO a 4 [.ref o.sa, .ref o.pa, .ref o.ha, .ref o.xa, .int o.pn, .int o.ru, .ref o.ta, .int o.ty, .int o.sp, .int o.fr, .int o.re, .int o.ca, .int o.os, .int o.od, .ref o.na], eIA E o.sa 311 f, eIA E o.pa 1244 h, rs]) [] [0, 1, 2, 3] 3 (m_Min hl E v 1 8) C dX4_set_33 rfl rfl rfl q1724 q1725 q67 q1726 (by decide +kernel) rfl (ePm 4 rfl (by decide +kernel)) rfl rfl ⟨Nat.le_of_ble_eq_true rfl, Nat.le_of_ble_eq_true rfl⟩ (Nat.le_trans eS0 (Nat.le_of_ble_eq_true rfl)) ⟨Nat.le_of_ble_eq_true rfl, Nat.le_of_ble_eq_true rfl⟩ (fun v_ Γ_ hp_ => ?_)
      obtain ⟨rfl, rfl⟩ := hp_
      show eZ x E _ [eO a 4 [.ref o.sa, .ref o.pa, .ref o.ha, .ref o.xa, .int o.pn, .int o.ru, .ref o.ta, .int o.ty, .int o.sp, .int o.fr, .int o.re, .int o.ca, .int o.os, .int o.od, .ref o.na], eIA E o.sa 311 f, eIA E o.pa 1244 h, rs] 36 [some (.ref a), some (.int (nI 0)), some (.int v), none] [.int (eB (eBt v 1 8))] 0 0
      refine z_if_ne_B 42 C dX4_set_36 (by decide) (fun h2 => ?_) (fun h2 => ?_)
      · have hr : gSets A (nI 0) v = .inr (A.st 0, (A.ls, A.cs, A.bs, upd A.st 0 v, A.u)) := by unfold gSets; rw [if_pos h1]; exact if_pos h2
        have R0 : rP f f 0 lv gs A.cs A.bs (gTF A) A.st := rP_of R hx
        refine z_aload_n C dX4_set_42 rfl rfl ?_
        refine z_callV (r := (RX4, TX4, 15)) (As := []) (rest := []) (Δ := [rs]) [0, 1, 2] [3] 0 (m_Mchanges hl E a o f A hok R h hs hH hoks hru) C dX4_set_43 rfl rfl (eIn (i := 0) rfl List.mem_cons_self) rfl rfl q1733 q1735 qs28 q67 q1736 (by decide +kernel) rfl (ePm 4 rfl (by decide +kernel)) rfl rfl ⟨Nat.le_of_ble_eq_true rfl, Nat.le_of_ble_eq_true rfl⟩ (Nat.le_trans eS0 (Nat.le_of_ble_eq_true rfl)) ⟨Nat.le_of_ble_eq_true rfl, Nat.le_of_ble_eq_true rfl⟩ (fun v_ Γ_ hp_ => ?_)
        obtain ⟨rfl, h2, pn2, rfl, hH2⟩ := hp_
        show eZ x E _ [eO a 4 [.ref o.sa, .ref o.pa, .ref o.ha, .ref o.xa, .int pn2, .int o.ru, .ref o.ta, .int o.ty, .int o.sp, .int o.fr, .int o.re, .int o.ca, .int o.os, .int o.od, .ref o.na], eIA E o.sa 311 f, eIA E o.pa 1244 h2, rs] 46 [some (.ref a), some (.int (nI 0)), some (.int v), none] [] 0 0
        refine z_aload_n C dX4_set_46 rfl rfl ?_
        refine z_get eK4 0 0 C dX4_set_47 rfl rfl q1671 (eSame1 rfl) (by decide) rfl ?_
        refine z_sipush (v := 307) C dX4_set_50 (by decide) ?_
        refine z_iload_n C dX4_set_53 rfl rfl ?_
        refine z_iadd (w := nI 307) C dX4_set_54 (nI_add 307 0) ?_
        refine z_iald (m := 307) (v := A.st 0) 1 C dX4_set_55 rfl rfl (by omega) (by decide) (R.2.2.2.2 0 (by decide)) ?_
        refine z_istore_n (L2 := [some (.ref a), some (.int (nI 0)), some (.int v), some (.int (A.st 0))]) C dX4_set_56 rfl (Nat.le_of_ble_eq_true rfl) rfl ?_
        refine z_aload_n C dX4_set_57 rfl rfl ?_
        refine z_get eK4 0 0 C dX4_set_58 rfl rfl q1671 (eSame1 rfl) (by decide) rfl ?_
        refine z_sipush (v := 307) C dX4_set_61 (by decide) ?_
        refine z_iload_n C dX4_set_64 rfl rfl ?_
        refine z_iadd (w := nI 307) C dX4_set_65 (nI_add 307 0) ?_
        refine z_iload_n C dX4_set_66 rfl rfl ?_
        obtain ⟨f9, hf9⟩ : ∃ q_ : Nat → Int32, q_ = upd f (307 + 0) v := ⟨_, rfl⟩
        refine z_iast (m := (307 + 0)) (Γ2 := [eO a 4 [.ref o.sa, .ref o.pa, .ref o.ha, .ref o.xa, .int pn2, .int o.ru, .ref o.ta, .int o.ty, .int o.sp, .int o.fr, .int o.re, .int o.ca, .int o.os, .int o.od, .ref o.na], eIA E o.sa 311 f9, eIA E o.pa 1244 h2, rs]) 1 C dX4_set_67 rfl rfl (by omega) (by decide) (by rw [hf9]; rfl) ?_
        have R9 : rP f f9 0 lv gs A.cs A.bs (gTF A) (upd A.st 0 v) := by rw [hf9]; exact rP_s 0 v (by decide) hz R0
        refine z_iload_n C dX4_set_68 rfl rfl ?_
        subst hQ_
        exact z_ret (Γ := [eO a 4 [.ref o.sa, .ref o.pa, .ref o.ha, .ref o.xa, .int pn2, .int o.ru, .ref o.ta, .int o.ty, .int o.sp, .int o.fr, .int o.re, .int o.ca, .int o.os, .int o.od, .ref o.na], eIA E o.sa 311 f9, eIA E o.pa 1244 h2]) C dX4_set_69 rfl rfl (Nat.le_of_ble_eq_true rfl) (Nat.le_of_ble_eq_true rfl) ⟨_, h2, pn2, by rw [hr]; rfl, rfl, by rw [hr]; exact rP_to R hok (by decide) R9 (set_same_ hx).symm rfl rfl rfl (gTF_S A _), by rw [hr]; exact hH2⟩
      · have hr : gSets A (nI 0) v = .inl (-1000001) := by unfold gSets; rw [if_pos h1]; exact if_neg (by show ¬ eBt v 1 8 = true; rw [h2]; decide)
        refine z_ldc C dX4_set_39 rfl q1727 ?_
        subst hQ_
        exact z_ret (Γ := [eO a 4 [.ref o.sa, .ref o.pa, .ref o.ha, .ref o.xa, .int o.pn, .int o.ru, .ref o.ta, .int o.ty, .int o.sp, .int o.fr, .int o.re, .int o.ca, .int o.os, .int o.od, .ref o.na], eIA E o.sa 311 f, eIA E o.pa 1244 h]) C dX4_set_41 rfl rfl (Nat.le_of_ble_eq_true rfl) (Nat.le_of_ble_eq_true rfl) ⟨f, h, o.pn, by rw [hr]; rfl, rfl, by rw [hr]; exact R, by rw [hr]; exact hH⟩
    · show eZ x E _ [eO a 4 [.ref o.sa, .ref o.pa, .ref o.ha, .ref o.xa, .int o.pn, .int o.ru, .ref o.ta, .int o.ty, .int o.sp, .int o.fr, .int o.re, .int o.ca, .int o.os, .int o.od, .ref o.na], eIA E o.sa 311 f, eIA E o.pa 1244 h, rs] 9 [some (.ref a), some (.int (nI 1)), some (.int v), none] [] 0 0
      refine z_iload_n C dX4_set_9 rfl rfl ?_
      refine z_iload_n C dX4_set_10 rfl rfl ?_
      refine z_iconst (v := 2) C dX4_set_11 (by decide) ?_
      refine z_icmp_ge 19 C dX4_set_12 (by decide) (fun h_ => absurd h_ (by decide)) (fun h_ => ?_)
      refine z_iconst (v := 1) C dX4_set_15 (by decide) ?_
      refine z_goto 20 C dX4_set_16 (by decide) ?_
      refine z_iload_n C dX4_set_20 rfl rfl ?_
      refine z_iconst (v := 3) C dX4_set_21 (by decide) ?_
      refine z_irem (w := (nI 1) - (nI 1) / 3 * 3) C dX4_set_22 (by decide) rfl ?_
      refine z_is (w := 1) (by decide) ?_
      refine z_if_ne 31 C dX4_set_23 (by decide) (fun h_ => ?_) (fun h_ => absurd h_ (by decide))
      refine z_bipush (v := 9) C dX4_set_31 (by decide) ?_
      refine z_callS (As := [.int v, .int 1, .int 9]) (rest := []) (Δ := [eO a 4 [.ref o.sa, .ref o.pa, .ref o.ha, .ref o.xa, .int o.pn, .int o.ru, .ref o.ta, .int o.ty, .int o.sp, .int o.fr, .int o.re, .int o.ca, .int o.os, .int o.od, .ref o.na], eIA E o.sa 311 f, eIA E o.pa 1244 h, rs]) [] [0, 1, 2, 3] 3 (m_Min hl E v 1 9) C dX4_set_33 rfl rfl rfl q1724 q1725 q67 q1726 (by decide +kernel) rfl (ePm 4 rfl (by decide +kernel)) rfl rfl ⟨Nat.le_of_ble_eq_true rfl, Nat.le_of_ble_eq_true rfl⟩ (Nat.le_trans eS0 (Nat.le_of_ble_eq_true rfl)) ⟨Nat.le_of_ble_eq_true rfl, Nat.le_of_ble_eq_true rfl⟩ (fun v_ Γ_ hp_ => ?_)
      obtain ⟨rfl, rfl⟩ := hp_
      show eZ x E _ [eO a 4 [.ref o.sa, .ref o.pa, .ref o.ha, .ref o.xa, .int o.pn, .int o.ru, .ref o.ta, .int o.ty, .int o.sp, .int o.fr, .int o.re, .int o.ca, .int o.os, .int o.od, .ref o.na], eIA E o.sa 311 f, eIA E o.pa 1244 h, rs] 36 [some (.ref a), some (.int (nI 1)), some (.int v), none] [.int (eB (eBt v 1 9))] 0 0
      refine z_if_ne_B 42 C dX4_set_36 (by decide) (fun h2 => ?_) (fun h2 => ?_)
      · have hr : gSets A (nI 1) v = .inr (A.st 1, (A.ls, A.cs, A.bs, upd A.st 1 v, A.u)) := by unfold gSets; rw [if_pos h1]; exact if_pos h2
        have R0 : rP f f 0 lv gs A.cs A.bs (gTF A) A.st := rP_of R hx
        refine z_aload_n C dX4_set_42 rfl rfl ?_
        refine z_callV (r := (RX4, TX4, 15)) (As := []) (rest := []) (Δ := [rs]) [0, 1, 2] [3] 0 (m_Mchanges hl E a o f A hok R h hs hH hoks hru) C dX4_set_43 rfl rfl (eIn (i := 0) rfl List.mem_cons_self) rfl rfl q1733 q1735 qs28 q67 q1736 (by decide +kernel) rfl (ePm 4 rfl (by decide +kernel)) rfl rfl ⟨Nat.le_of_ble_eq_true rfl, Nat.le_of_ble_eq_true rfl⟩ (Nat.le_trans eS0 (Nat.le_of_ble_eq_true rfl)) ⟨Nat.le_of_ble_eq_true rfl, Nat.le_of_ble_eq_true rfl⟩ (fun v_ Γ_ hp_ => ?_)
        obtain ⟨rfl, h2, pn2, rfl, hH2⟩ := hp_
        show eZ x E _ [eO a 4 [.ref o.sa, .ref o.pa, .ref o.ha, .ref o.xa, .int pn2, .int o.ru, .ref o.ta, .int o.ty, .int o.sp, .int o.fr, .int o.re, .int o.ca, .int o.os, .int o.od, .ref o.na], eIA E o.sa 311 f, eIA E o.pa 1244 h2, rs] 46 [some (.ref a), some (.int (nI 1)), some (.int v), none] [] 0 0
        refine z_aload_n C dX4_set_46 rfl rfl ?_
        refine z_get eK4 0 0 C dX4_set_47 rfl rfl q1671 (eSame1 rfl) (by decide) rfl ?_
        refine z_sipush (v := 307) C dX4_set_50 (by decide) ?_
        refine z_iload_n C dX4_set_53 rfl rfl ?_
        refine z_iadd (w := nI (307 + 1)) C dX4_set_54 (nI_add 307 1) ?_
        refine z_iald (m := (307 + 1)) (v := A.st 1) 1 C dX4_set_55 rfl rfl (by omega) (by decide) (R.2.2.2.2 1 (by decide)) ?_
        refine z_istore_n (L2 := [some (.ref a), some (.int (nI 1)), some (.int v), some (.int (A.st 1))]) C dX4_set_56 rfl (Nat.le_of_ble_eq_true rfl) rfl ?_
        refine z_aload_n C dX4_set_57 rfl rfl ?_
        refine z_get eK4 0 0 C dX4_set_58 rfl rfl q1671 (eSame1 rfl) (by decide) rfl ?_
        refine z_sipush (v := 307) C dX4_set_61 (by decide) ?_
        refine z_iload_n C dX4_set_64 rfl rfl ?_
        refine z_iadd (w := nI (307 + 1)) C dX4_set_65 (nI_add 307 1) ?_
        refine z_iload_n C dX4_set_66 rfl rfl ?_
        obtain ⟨f9, hf9⟩ : ∃ q_ : Nat → Int32, q_ = upd f (307 + 1) v := ⟨_, rfl⟩
        refine z_iast (m := (307 + 1)) (Γ2 := [eO a 4 [.ref o.sa, .ref o.pa, .ref o.ha, .ref o.xa, .int pn2, .int o.ru, .ref o.ta, .int o.ty, .int o.sp, .int o.fr, .int o.re, .int o.ca, .int o.os, .int o.od, .ref o.na], eIA E o.sa 311 f9, eIA E o.pa 1244 h2, rs]) 1 C dX4_set_67 rfl rfl (by omega) (by decide) (by rw [hf9]; rfl) ?_
        have R9 : rP f f9 0 lv gs A.cs A.bs (gTF A) (upd A.st 1 v) := by rw [hf9]; exact rP_s 1 v (by decide) hz R0
        refine z_iload_n C dX4_set_68 rfl rfl ?_
        subst hQ_
        exact z_ret (Γ := [eO a 4 [.ref o.sa, .ref o.pa, .ref o.ha, .ref o.xa, .int pn2, .int o.ru, .ref o.ta, .int o.ty, .int o.sp, .int o.fr, .int o.re, .int o.ca, .int o.os, .int o.od, .ref o.na], eIA E o.sa 311 f9, eIA E o.pa 1244 h2]) C dX4_set_69 rfl rfl (Nat.le_of_ble_eq_true rfl) (Nat.le_of_ble_eq_true rfl) ⟨_, h2, pn2, by rw [hr]; rfl, rfl, by rw [hr]; exact rP_to R hok (by decide) R9 (set_same_ hx).symm rfl rfl rfl (gTF_S A _), by rw [hr]; exact hH2⟩
      · have hr : gSets A (nI 1) v = .inl (-1000001) := by unfold gSets; rw [if_pos h1]; exact if_neg (by show ¬ eBt v 1 9 = true; rw [h2]; decide)
        refine z_ldc C dX4_set_39 rfl q1727 ?_
        subst hQ_
        exact z_ret (Γ := [eO a 4 [.ref o.sa, .ref o.pa, .ref o.ha, .ref o.xa, .int o.pn, .int o.ru, .ref o.ta, .int o.ty, .int o.sp, .int o.fr, .int o.re, .int o.ca, .int o.os, .int o.od, .ref o.na], eIA E o.sa 311 f, eIA E o.pa 1244 h]) C dX4_set_41 rfl rfl (Nat.le_of_ble_eq_true rfl) (Nat.le_of_ble_eq_true rfl) ⟨f, h, o.pn, by rw [hr]; rfl, rfl, by rw [hr]; exact R, by rw [hr]; exact hH⟩
    · show eZ x E _ [eO a 4 [.ref o.sa, .ref o.pa, .ref o.ha, .ref o.xa, .int o.pn, .int o.ru, .ref o.ta, .int o.ty, .int o.sp, .int o.fr, .int o.re, .int o.ca, .int o.os, .int o.od, .ref o.na], eIA E o.sa 311 f, eIA E o.pa 1244 h, rs] 9 [some (.ref a), some (.int (nI 2)), some (.int v), none] [] 0 0
      refine z_iload_n C dX4_set_9 rfl rfl ?_
      refine z_iload_n C dX4_set_10 rfl rfl ?_
      refine z_iconst (v := 2) C dX4_set_11 (by decide) ?_
      refine z_icmp_ge 19 C dX4_set_12 (by decide) (fun h_ => ?_) (fun h_ => absurd h_ (absurd (by decide) h_))
      refine z_iconst (v := 0) C dX4_set_19 (by decide) ?_
      refine z_iload_n C dX4_set_20 rfl rfl ?_
      refine z_iconst (v := 3) C dX4_set_21 (by decide) ?_
      refine z_irem (w := (nI 2) - (nI 2) / 3 * 3) C dX4_set_22 (by decide) rfl ?_
      refine z_is (w := 2) (by decide) ?_
      refine z_if_ne 31 C dX4_set_23 (by decide) (fun h_ => ?_) (fun h_ => absurd h_ (by decide))
      refine z_bipush (v := 9) C dX4_set_31 (by decide) ?_
      refine z_callS (As := [.int v, .int 0, .int 9]) (rest := []) (Δ := [eO a 4 [.ref o.sa, .ref o.pa, .ref o.ha, .ref o.xa, .int o.pn, .int o.ru, .ref o.ta, .int o.ty, .int o.sp, .int o.fr, .int o.re, .int o.ca, .int o.os, .int o.od, .ref o.na], eIA E o.sa 311 f, eIA E o.pa 1244 h, rs]) [] [0, 1, 2, 3] 3 (m_Min hl E v 0 9) C dX4_set_33 rfl rfl rfl q1724 q1725 q67 q1726 (by decide +kernel) rfl (ePm 4 rfl (by decide +kernel)) rfl rfl ⟨Nat.le_of_ble_eq_true rfl, Nat.le_of_ble_eq_true rfl⟩ (Nat.le_trans eS0 (Nat.le_of_ble_eq_true rfl)) ⟨Nat.le_of_ble_eq_true rfl, Nat.le_of_ble_eq_true rfl⟩ (fun v_ Γ_ hp_ => ?_)
      obtain ⟨rfl, rfl⟩ := hp_
      show eZ x E _ [eO a 4 [.ref o.sa, .ref o.pa, .ref o.ha, .ref o.xa, .int o.pn, .int o.ru, .ref o.ta, .int o.ty, .int o.sp, .int o.fr, .int o.re, .int o.ca, .int o.os, .int o.od, .ref o.na], eIA E o.sa 311 f, eIA E o.pa 1244 h, rs] 36 [some (.ref a), some (.int (nI 2)), some (.int v), none] [.int (eB (eBt v 0 9))] 0 0
      refine z_if_ne_B 42 C dX4_set_36 (by decide) (fun h2 => ?_) (fun h2 => ?_)
      · have hr : gSets A (nI 2) v = .inr (A.st 2, (A.ls, A.cs, A.bs, upd A.st 2 v, A.u)) := by unfold gSets; rw [if_pos h1]; exact if_pos h2
        have R0 : rP f f 0 lv gs A.cs A.bs (gTF A) A.st := rP_of R hx
        refine z_aload_n C dX4_set_42 rfl rfl ?_
        refine z_callV (r := (RX4, TX4, 15)) (As := []) (rest := []) (Δ := [rs]) [0, 1, 2] [3] 0 (m_Mchanges hl E a o f A hok R h hs hH hoks hru) C dX4_set_43 rfl rfl (eIn (i := 0) rfl List.mem_cons_self) rfl rfl q1733 q1735 qs28 q67 q1736 (by decide +kernel) rfl (ePm 4 rfl (by decide +kernel)) rfl rfl ⟨Nat.le_of_ble_eq_true rfl, Nat.le_of_ble_eq_true rfl⟩ (Nat.le_trans eS0 (Nat.le_of_ble_eq_true rfl)) ⟨Nat.le_of_ble_eq_true rfl, Nat.le_of_ble_eq_true rfl⟩ (fun v_ Γ_ hp_ => ?_)
        obtain ⟨rfl, h2, pn2, rfl, hH2⟩ := hp_
        show eZ x E _ [eO a 4 [.ref o.sa, .ref o.pa, .ref o.ha, .ref o.xa, .int pn2, .int o.ru, .ref o.ta, .int o.ty, .int o.sp, .int o.fr, .int o.re, .int o.ca, .int o.os, .int o.od, .ref o.na], eIA E o.sa 311 f, eIA E o.pa 1244 h2, rs] 46 [some (.ref a), some (.int (nI 2)), some (.int v), none] [] 0 0
        refine z_aload_n C dX4_set_46 rfl rfl ?_
        refine z_get eK4 0 0 C dX4_set_47 rfl rfl q1671 (eSame1 rfl) (by decide) rfl ?_
        refine z_sipush (v := 307) C dX4_set_50 (by decide) ?_
        refine z_iload_n C dX4_set_53 rfl rfl ?_
        refine z_iadd (w := nI (307 + 2)) C dX4_set_54 (nI_add 307 2) ?_
        refine z_iald (m := (307 + 2)) (v := A.st 2) 1 C dX4_set_55 rfl rfl (by omega) (by decide) (R.2.2.2.2 2 (by decide)) ?_
        refine z_istore_n (L2 := [some (.ref a), some (.int (nI 2)), some (.int v), some (.int (A.st 2))]) C dX4_set_56 rfl (Nat.le_of_ble_eq_true rfl) rfl ?_
        refine z_aload_n C dX4_set_57 rfl rfl ?_
        refine z_get eK4 0 0 C dX4_set_58 rfl rfl q1671 (eSame1 rfl) (by decide) rfl ?_
        refine z_sipush (v := 307) C dX4_set_61 (by decide) ?_
        refine z_iload_n C dX4_set_64 rfl rfl ?_
        refine z_iadd (w := nI (307 + 2)) C dX4_set_65 (nI_add 307 2) ?_
        refine z_iload_n C dX4_set_66 rfl rfl ?_
        obtain ⟨f9, hf9⟩ : ∃ q_ : Nat → Int32, q_ = upd f (307 + 2) v := ⟨_, rfl⟩
        refine z_iast (m := (307 + 2)) (Γ2 := [eO a 4 [.ref o.sa, .ref o.pa, .ref o.ha, .ref o.xa, .int pn2, .int o.ru, .ref o.ta, .int o.ty, .int o.sp, .int o.fr, .int o.re, .int o.ca, .int o.os, .int o.od, .ref o.na], eIA E o.sa 311 f9, eIA E o.pa 1244 h2, rs]) 1 C dX4_set_67 rfl rfl (by omega) (by decide) (by rw [hf9]; rfl) ?_
        have R9 : rP f f9 0 lv gs A.cs A.bs (gTF A) (upd A.st 2 v) := by rw [hf9]; exact rP_s 2 v (by decide) hz R0
        refine z_iload_n C dX4_set_68 rfl rfl ?_
        subst hQ_
        exact z_ret (Γ := [eO a 4 [.ref o.sa, .ref o.pa, .ref o.ha, .ref o.xa, .int pn2, .int o.ru, .ref o.ta, .int o.ty, .int o.sp, .int o.fr, .int o.re, .int o.ca, .int o.os, .int o.od, .ref o.na], eIA E o.sa 311 f9, eIA E o.pa 1244 h2]) C dX4_set_69 rfl rfl (Nat.le_of_ble_eq_true rfl) (Nat.le_of_ble_eq_true rfl) ⟨_, h2, pn2, by rw [hr]; rfl, rfl, by rw [hr]; exact rP_to R hok (by decide) R9 (set_same_ hx).symm rfl rfl rfl (gTF_S A _), by rw [hr]; exact hH2⟩
      · have hr : gSets A (nI 2) v = .inl (-1000001) := by unfold gSets; rw [if_pos h1]; exact if_neg (by show ¬ eBt v 0 9 = true; rw [h2]; decide)
        refine z_ldc C dX4_set_39 rfl q1727 ?_
        subst hQ_
        exact z_ret (Γ := [eO a 4 [.ref o.sa, .ref o.pa, .ref o.ha, .ref o.xa, .int o.pn, .int o.ru, .ref o.ta, .int o.ty, .int o.sp, .int o.fr, .int o.re, .int o.ca, .int o.os, .int o.od, .ref o.na], eIA E o.sa 311 f, eIA E o.pa 1244 h]) C dX4_set_41 rfl rfl (Nat.le_of_ble_eq_true rfl) (Nat.le_of_ble_eq_true rfl) ⟨f, h, o.pn, by rw [hr]; rfl, rfl, by rw [hr]; exact R, by rw [hr]; exact hH⟩
    · show eZ x E _ [eO a 4 [.ref o.sa, .ref o.pa, .ref o.ha, .ref o.xa, .int o.pn, .int o.ru, .ref o.ta, .int o.ty, .int o.sp, .int o.fr, .int o.re, .int o.ca, .int o.os, .int o.od, .ref o.na], eIA E o.sa 311 f, eIA E o.pa 1244 h, rs] 9 [some (.ref a), some (.int (nI 3)), some (.int v), none] [] 0 0
      refine z_iload_n C dX4_set_9 rfl rfl ?_
      refine z_iload_n C dX4_set_10 rfl rfl ?_
      refine z_iconst (v := 2) C dX4_set_11 (by decide) ?_
      refine z_icmp_ge 19 C dX4_set_12 (by decide) (fun h_ => ?_) (fun h_ => absurd h_ (absurd (by decide) h_))
      refine z_iconst (v := 0) C dX4_set_19 (by decide) ?_
      refine z_iload_n C dX4_set_20 rfl rfl ?_
      refine z_iconst (v := 3) C dX4_set_21 (by decide) ?_
      refine z_irem (w := (nI 3) - (nI 3) / 3 * 3) C dX4_set_22 (by decide) rfl ?_
      refine z_is (w := 0) (by decide) ?_
      refine z_if_ne 31 C dX4_set_23 (by decide) (fun h_ => absurd h_ (by decide)) (fun h_ => ?_)
      refine z_bipush (v := 8) C dX4_set_26 (by decide) ?_
      refine z_goto 33 C dX4_set_28 (by decide) ?_
      refine z_callS (As := [.int v, .int 0, .int 8]) (rest := []) (Δ := [eO a 4 [.ref o.sa, .ref o.pa, .ref o.ha, .ref o.xa, .int o.pn, .int o.ru, .ref o.ta, .int o.ty, .int o.sp, .int o.fr, .int o.re, .int o.ca, .int o.os, .int o.od, .ref o.na], eIA E o.sa 311 f, eIA E o.pa 1244 h, rs]) [] [0, 1, 2, 3] 3 (m_Min hl E v 0 8) C dX4_set_33 rfl rfl rfl q1724 q1725 q67 q1726 (by decide +kernel) rfl (ePm 4 rfl (by decide +kernel)) rfl rfl ⟨Nat.le_of_ble_eq_true rfl, Nat.le_of_ble_eq_true rfl⟩ (Nat.le_trans eS0 (Nat.le_of_ble_eq_true rfl)) ⟨Nat.le_of_ble_eq_true rfl, Nat.le_of_ble_eq_true rfl⟩ (fun v_ Γ_ hp_ => ?_)
      obtain ⟨rfl, rfl⟩ := hp_
      show eZ x E _ [eO a 4 [.ref o.sa, .ref o.pa, .ref o.ha, .ref o.xa, .int o.pn, .int o.ru, .ref o.ta, .int o.ty, .int o.sp, .int o.fr, .int o.re, .int o.ca, .int o.os, .int o.od, .ref o.na], eIA E o.sa 311 f, eIA E o.pa 1244 h, rs] 36 [some (.ref a), some (.int (nI 3)), some (.int v), none] [.int (eB (eBt v 0 8))] 0 0
      refine z_if_ne_B 42 C dX4_set_36 (by decide) (fun h2 => ?_) (fun h2 => ?_)
      · have hr : gSets A (nI 3) v = .inr (A.st 3, (A.ls, A.cs, A.bs, upd A.st 3 v, A.u)) := by unfold gSets; rw [if_pos h1]; exact if_pos h2
        have R0 : rP f f 0 lv gs A.cs A.bs (gTF A) A.st := rP_of R hx
        refine z_aload_n C dX4_set_42 rfl rfl ?_
        refine z_callV (r := (RX4, TX4, 15)) (As := []) (rest := []) (Δ := [rs]) [0, 1, 2] [3] 0 (m_Mchanges hl E a o f A hok R h hs hH hoks hru) C dX4_set_43 rfl rfl (eIn (i := 0) rfl List.mem_cons_self) rfl rfl q1733 q1735 qs28 q67 q1736 (by decide +kernel) rfl (ePm 4 rfl (by decide +kernel)) rfl rfl ⟨Nat.le_of_ble_eq_true rfl, Nat.le_of_ble_eq_true rfl⟩ (Nat.le_trans eS0 (Nat.le_of_ble_eq_true rfl)) ⟨Nat.le_of_ble_eq_true rfl, Nat.le_of_ble_eq_true rfl⟩ (fun v_ Γ_ hp_ => ?_)
        obtain ⟨rfl, h2, pn2, rfl, hH2⟩ := hp_
        show eZ x E _ [eO a 4 [.ref o.sa, .ref o.pa, .ref o.ha, .ref o.xa, .int pn2, .int o.ru, .ref o.ta, .int o.ty, .int o.sp, .int o.fr, .int o.re, .int o.ca, .int o.os, .int o.od, .ref o.na], eIA E o.sa 311 f, eIA E o.pa 1244 h2, rs] 46 [some (.ref a), some (.int (nI 3)), some (.int v), none] [] 0 0
        refine z_aload_n C dX4_set_46 rfl rfl ?_
        refine z_get eK4 0 0 C dX4_set_47 rfl rfl q1671 (eSame1 rfl) (by decide) rfl ?_
        refine z_sipush (v := 307) C dX4_set_50 (by decide) ?_
        refine z_iload_n C dX4_set_53 rfl rfl ?_
        refine z_iadd (w := nI (307 + 3)) C dX4_set_54 (nI_add 307 3) ?_
        refine z_iald (m := (307 + 3)) (v := A.st 3) 1 C dX4_set_55 rfl rfl (by omega) (by decide) (R.2.2.2.2 3 (by decide)) ?_
        refine z_istore_n (L2 := [some (.ref a), some (.int (nI 3)), some (.int v), some (.int (A.st 3))]) C dX4_set_56 rfl (Nat.le_of_ble_eq_true rfl) rfl ?_
        refine z_aload_n C dX4_set_57 rfl rfl ?_
        refine z_get eK4 0 0 C dX4_set_58 rfl rfl q1671 (eSame1 rfl) (by decide) rfl ?_
        refine z_sipush (v := 307) C dX4_set_61 (by decide) ?_
        refine z_iload_n C dX4_set_64 rfl rfl ?_
        refine z_iadd (w := nI (307 + 3)) C dX4_set_65 (nI_add 307 3) ?_
        refine z_iload_n C dX4_set_66 rfl rfl ?_
        obtain ⟨f9, hf9⟩ : ∃ q_ : Nat → Int32, q_ = upd f (307 + 3) v := ⟨_, rfl⟩
        refine z_iast (m := (307 + 3)) (Γ2 := [eO a 4 [.ref o.sa, .ref o.pa, .ref o.ha, .ref o.xa, .int pn2, .int o.ru, .ref o.ta, .int o.ty, .int o.sp, .int o.fr, .int o.re, .int o.ca, .int o.os, .int o.od, .ref o.na], eIA E o.sa 311 f9, eIA E o.pa 1244 h2, rs]) 1 C dX4_set_67 rfl rfl (by omega) (by decide) (by rw [hf9]; rfl) ?_
        have R9 : rP f f9 0 lv gs A.cs A.bs (gTF A) (upd A.st 3 v) := by rw [hf9]; exact rP_s 3 v (by decide) hz R0
        refine z_iload_n C dX4_set_68 rfl rfl ?_
        subst hQ_
        exact z_ret (Γ := [eO a 4 [.ref o.sa, .ref o.pa, .ref o.ha, .ref o.xa, .int pn2, .int o.ru, .ref o.ta, .int o.ty, .int o.sp, .int o.fr, .int o.re, .int o.ca, .int o.os, .int o.od, .ref o.na], eIA E o.sa 311 f9, eIA E o.pa 1244 h2]) C dX4_set_69 rfl rfl (Nat.le_of_ble_eq_true rfl) (Nat.le_of_ble_eq_true rfl) ⟨_, h2, pn2, by rw [hr]; rfl, rfl, by rw [hr]; exact rP_to R hok (by decide) R9 (set_same_ hx).symm rfl rfl rfl (gTF_S A _), by rw [hr]; exact hH2⟩
      · have hr : gSets A (nI 3) v = .inl (-1000001) := by unfold gSets; rw [if_pos h1]; exact if_neg (by show ¬ eBt v 0 8 = true; rw [h2]; decide)
        refine z_ldc C dX4_set_39 rfl q1727 ?_
        subst hQ_
        exact z_ret (Γ := [eO a 4 [.ref o.sa, .ref o.pa, .ref o.ha, .ref o.xa, .int o.pn, .int o.ru, .ref o.ta, .int o.ty, .int o.sp, .int o.fr, .int o.re, .int o.ca, .int o.os, .int o.od, .ref o.na], eIA E o.sa 311 f, eIA E o.pa 1244 h]) C dX4_set_41 rfl rfl (Nat.le_of_ble_eq_true rfl) (Nat.le_of_ble_eq_true rfl) ⟨f, h, o.pn, by rw [hr]; rfl, rfl, by rw [hr]; exact R, by rw [hr]; exact hH⟩
