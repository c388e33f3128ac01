/-! ===== the model: the history; orders ===== -/
set_option maxRecDepth 100000
abbrev Mo.pnS (o : Mo) (pn : Int32) : Mo := (o.sa, o.pa, o.ha, o.xa, pn, o.ru, o.ta, o.ty, o.sp, o.fr, o.re, o.ca, o.os, o.od, o.na)
def rH (h : Nat → Int32) (pn : Int32) (hs : List Am) : Prop := pn = nI hs.length ∧ hs.length ≤ 4 ∧ ∀ i A, hs[i]? = some A → Rep (fun k => h (311 * i + k)) A
def gHs (ru : Int32) (hs : List Am) (A : Am) : List Am := if ru = 0 then gHist hs A else hs
theorem Rep_fr {f f2 : Nat → Int32} {A : Am} (hok : gOk A) (h : ∀ k, k < 311 → f2 k = f k) (R : Rep f A) : Rep f2 A := by
  obtain ⟨h1, h2, h3, h4, h5⟩ := hok
  obtain ⟨r1, r2, r3, r4, r5⟩ := R
  refine ⟨fun l x hx => rL1_fr (h2 x (List.mem_of_getElem? hx)) (fun k hk => h k ?_) (r1 l x hx), rC_fr (Nat.le_of_eq h3) (fun k _ hk => h k (by omega)) r2, rB_fr h4 (fun k _ hk => h k (by omega)) r3, fun j hj => by rw [h _ (by omega)]; exact r4 j hj, rS_fr (fun k _ hk => h k hk) r5⟩
  have hl : l < A.ls.length := (List.getElem?_eq_some_iff.mp hx).1
  omega
def mSh (h : Nat → Int32) (i : Nat) : Nat → Int32 := fun k => if k < i then h (k + 311) else h k
def mCp (h f : Nat → Int32) (p i : Nat) : Nat → Int32 := fun k => if 311 * p ≤ k ∧ k < 311 * p + i then f (k - 311 * p) else h k
theorem mSh_0 (h : Nat → Int32) : mSh h 0 = h := by funext k; exact if_neg (Nat.not_lt_zero k)
theorem mSh_s (h : Nat → Int32) (i : Nat) : mSh h (i + 1) = upd (mSh h i) i (mSh h i (i + 311)) := by
  funext k
  by_cases hk : k = i
  · subst hk; rw [upd_self_]; unfold mSh; rw [if_pos (by omega), if_neg (by omega)]
  · rw [upd_ne_ hk]
    unfold mSh
    by_cases h2 : k < i
    · rw [if_pos h2, if_pos (by omega)]
    · rw [if_neg h2, if_neg (by omega)]
theorem mCp_0 (h f : Nat → Int32) (p : Nat) : mCp h f p 0 = h := by funext k; exact if_neg (by omega)
theorem mCp_s (h f : Nat → Int32) (p i : Nat) : mCp h f p (i + 1) = upd (mCp h f p i) (311 * p + i) (f i) := by
  funext k
  by_cases hk : k = 311 * p + i
  · subst hk; rw [upd_self_]; unfold mCp; rw [if_pos (by omega)]; congr 1; omega
  · rw [upd_ne_ hk]
    unfold mCp
    by_cases h2 : 311 * p ≤ k ∧ k < 311 * p + i
    · rw [if_pos h2, if_pos (by omega)]
    · rw [if_neg h2, if_neg (by omega)]
theorem mCp_at {h f : Nat → Int32} {p k : Nat} (hk : k < 311) : mCp h f p 311 (311 * p + k) = f k := by
  unfold mCp; rw [if_pos (by omega)]; congr 1; omega
theorem mCp_lo {h f : Nat → Int32} {p k : Nat} (hk : k < 311 * p) : mCp h f p 311 k = h k := if_neg (by omega)
theorem rH_lt {h f : Nat → Int32} {pn : Int32} {hs : List Am} {A : Am} (hok : gOk A) (hoks : ∀ B ∈ hs, gOk B) (R : Rep f A) (hH : rH h pn hs) (h4 : hs.length < 4) : rH (mCp h f hs.length 311) (nI (hs.length + 1)) (gHist hs A) := by
  have hg : gHist hs A = hs ++ [A] := if_pos h4
  rw [hg]
  refine ⟨by rw [List.length_append]; rfl, by rw [List.length_append]; exact h4, fun i B hB => ?_⟩
  have hi : i < (hs ++ [A]).length := (List.getElem?_eq_some_iff.mp hB).1
  rw [List.length_append] at hi
  have hi2 : i < hs.length + 1 := hi
  rcases Nat.lt_or_ge i hs.length with hlt | hge
  · rw [List.getElem?_append_left hlt] at hB
    exact Rep_fr (hoks B (List.mem_of_getElem? hB)) (fun k hk => mCp_lo (by omega)) (hH.2.2 i B hB)
  · obtain rfl : i = hs.length := by omega
    rw [List.getElem?_append_right (Nat.le_refl _), Nat.sub_self] at hB
    cases hB
    exact Rep_fr hok (fun k hk => mCp_at hk) R
theorem rH_eq {h f : Nat → Int32} {pn : Int32} {hs : List Am} {A : Am} (hok : gOk A) (hoks : ∀ B ∈ hs, gOk B) (R : Rep f A) (hH : rH h pn hs) (h4 : hs.length = 4) : rH (mCp (mSh h 933) f 3 311) (nI (3 + 1)) (gHist hs A) := by
  have hg : gHist hs A = (hs ++ [A]).tail := if_neg (by omega)
  rw [hg]
  refine ⟨by rw [List.length_tail, List.length_append, h4]; rfl, by rw [List.length_tail, List.length_append, h4]; exact Nat.le_refl 4, fun i B hB => ?_⟩
  rw [List.getElem?_tail] at hB
  have hi : i + 1 < (hs ++ [A]).length := (List.getElem?_eq_some_iff.mp hB).1
  rw [List.length_append, h4] at hi
  have hi2 : i + 1 < 5 := hi
  rcases Nat.lt_or_ge i 3 with hlt | hge
  · rw [List.getElem?_append_left (by omega)] at hB
    refine Rep_fr (hoks B (List.mem_of_getElem? hB)) (fun k hk => ?_) (hH.2.2 (i + 1) B hB)
    show mCp (mSh h 933) f 3 311 (311 * i + k) = h (311 * (i + 1) + k)
    rw [mCp_lo (by omega)]
    unfold mSh
    rw [if_pos (by omega)]
    congr 1; omega
  · obtain rfl : i = 3 := by omega
    rw [List.getElem?_append_right (by omega), h4] at hB
    cases hB
    exact Rep_fr hok (fun k hk => mCp_at hk) R
def gRv (r : Gr) : Int32 := match r with | .inl c => c | .inr (v, _) => v
def gRm (A : Am) (r : Gr) : Am := match r with | .inl _ => A | .inr (_, M) => M
def gHr (ru : Int32) (hs : List Am) (A : Am) (r : Gr) : List Am := match r with | .inl _ => hs | .inr _ => gHs ru hs A
abbrev mPost (E : eEn) (a : Nat) (o : Mo) (A : Am) (hs : List Am) (r : Gr) : Option Value → List va_W → Prop := fun w Γ => ∃ f2 h2 pn2, w = some (.int (gRv r)) ∧ Γ = [eMO a (o.pnS pn2), eIA E o.sa 311 f2, eIA E o.pa 1244 h2] ∧ Rep f2 (gRm A r) ∧ rH h2 pn2 (gHr o.ru hs A r)
theorem gL_at {A : Am} {N : Nat} {x : Lv × List Eg} (hN : N < 4) (h : A.ls[N]? = some x) : gL A (nI N) = x := by
  unfold gL
  rw [nN_nI (by omega), List.getD, h]; rfl
theorem gSetL_at {A : Am} {N : Nat} {l : Lv × List Eg} (hN : N < 4) : gSetL A (nI N) l = (A.ls.set N l, A.cs, A.bs, A.st, A.u) := by
  unfold gSetL
  rw [nN_nI (by omega)]

set_option maxHeartbeats 4000000 in
theorem m_Mchanges {l : Launch} (hl : l.stackTraces = false) (E : eEn) (a : Nat) (o : Mo) (f : Nat → Int32) (A : Am) (hok : gOk A) (R : Rep f A) (h : Nat → Int32) (hs : List Am) (hH : rH h o.pn hs) (hoks : ∀ B ∈ hs, gOk B) (hru : o.ru = 0 ∨ o.ru = 1)  : eMet l E yX4_changes (ws_ yX4_changes cX4_changes 2 none) ({ frames := 0, cells := 0, slots := 0, locals := 0 }) [.ref a] [eO a 4 [.ref o.sa, .ref o.pa, .ref o.ha, .ref o.xa, .int o.pn, .int o.ru, .ref o.ta, .int o.ty, .int o.sp, .int o.fr, .int o.re, .int o.ca, .int o.os, .int o.od, .ref o.na], eIA E o.sa 311 f, eIA E o.pa 1244 h] (fun w Γ => w = none ∧ ∃ h2 pn2, Γ = [eMO a (o.pnS pn2), eIA E o.sa 311 f, eIA E o.pa 1244 h2] ∧ rH h2 pn2 (gHs o.ru hs A)) := by
  refine eStart (cc := cX4_changes) (nL := 2) (L := [some (.ref a), none]) hl (by decide) rfl (List.forall_mem_cons.mpr ⟨rfl, (fun _ h => absurd h List.not_mem_nil)⟩) (Nat.le_of_ble_eq_true rfl) ?_
  intro x rs C
  show eZ x E (eQ x E (fun w Γ => w = none ∧ ∃ h2 pn2, Γ = [eMO a (o.pnS pn2), eIA E o.sa 311 f, eIA E o.pa 1244 h2] ∧ rH h2 pn2 (gHs o.ru hs A)) rs) [eO a 4 [.ref o.sa, .ref o.pa, .ref o.ha, .ref o.xa, .int o.pn, .int o.ru, .ref o.ta, .int o.ty, .int o.sp, .int o.fr, .int o.re, .int o.ca, .int o.os, .int o.od, .ref o.na], eIA E o.sa 311 f, eIA E o.pa 1244 h, rs] 0 [some (.ref a), none] [] 0 0
  generalize hQ_ : eQ x E (fun w Γ => w = none ∧ ∃ h2 pn2, Γ = [eMO a (o.pnS pn2), eIA E o.sa 311 f, eIA E o.pa 1244 h2] ∧ rH h2 pn2 (gHs o.ru hs A)) rs = Q_
  refine z_aload_n C dX4_changes_0 rfl rfl ?_
  refine z_get eK4 0 5 C dX4_changes_1 rfl rfl q1676 (eSame1 rfl) (by decide) rfl ?_
  refine z_if_eq 8 C dX4_changes_4 (by decide) (fun h1 => ?_) (fun h1 => ?_)
  · have h4 := hH.2.1
    refine z_aload_n C dX4_changes_8 rfl rfl ?_
    have F : ∀ (p : Nat) (h1_ : Nat → Int32), p < 4 → rH (mCp h1_ f p 311) (nI (p + 1)) (gHist hs A) → eZ x E Q_ [eO a 4 [.ref o.sa, .ref o.pa, .ref o.ha, .ref o.xa, .int (nI p), .int o.ru, .ref o.ta, .int o.ty, .int o.sp, .int o.fr, .int o.re, .int o.ca, .int o.os, .int o.od, .ref o.na], eIA E o.sa 311 f, eIA E o.pa 1244 h1_, rs] 57 [some (.ref a), none] [] 0 0 := by
      intro p h1_ hp hF
      refine z_iconst (v := 0) C dX4_changes_57 (by decide) ?_
      refine z_istore_n (L2 := [some (.ref a), some (.int 0)]) C dX4_changes_58 rfl (Nat.le_of_ble_eq_true rfl) rfl ?_
      have K : ∀ (d i : Nat), i + d = 311 → eZ x E Q_ [eO a 4 [.ref o.sa, .ref o.pa, .ref o.ha, .ref o.xa, .int (nI p), .int o.ru, .ref o.ta, .int o.ty, .int o.sp, .int o.fr, .int o.re, .int o.ca, .int o.os, .int o.od, .ref o.na], eIA E o.sa 311 f, eIA E o.pa 1244 (mCp h1_ f p i), rs] 59 [some (.ref a), some (.int (nI i))] [] 0 0 := by
        intro d
        induction d with
        | zero =>
            intro i hi
            obtain rfl : i = 311 := by omega
            refine z_iload_n C dX4_changes_59 rfl rfl ?_
            refine z_sipush (v := 311) C dX4_changes_60 (by decide) ?_
            refine z_icmp_ge 93 C dX4_changes_63 (by decide) (fun h_ => ?_) (fun h_ => absurd h_ (absurd (by decide) h_))
            refine z_aload_n C dX4_changes_93 rfl rfl ?_
            refine z_dup C dX4_changes_94 rfl ?_
            refine z_get eK4 0 4 C dX4_changes_95 rfl rfl q1675 (eSame1 rfl) (by decide) rfl ?_
            refine z_iconst (v := 1) C dX4_changes_98 (by decide) ?_
            refine z_iadd (w := nI (p + 1)) C dX4_changes_99 (nI_add p 1) ?_
            refine z_put eK4 0 4 (Γ2 := [eO a 4 [.ref o.sa, .ref o.pa, .ref o.ha, .ref o.xa, .int (nI (p + 1)), .int o.ru, .ref o.ta, .int o.ty, .int o.sp, .int o.fr, .int o.re, .int o.ca, .int o.os, .int o.od, .ref o.na], eIA E o.sa 311 f, eIA E o.pa 1244 (mCp h1_ f p 311), rs]) C dX4_changes_100 rfl rfl q1675 (eSame1 rfl) (by decide) rfl rfl rfl rfl (Nat.le_of_ble_eq_true rfl) rfl ?_
            subst hQ_
            exact z_vret (Γ := [eO a 4 [.ref o.sa, .ref o.pa, .ref o.ha, .ref o.xa, .int (nI (p + 1)), .int o.ru, .ref o.ta, .int o.ty, .int o.sp, .int o.fr, .int o.re, .int o.ca, .int o.os, .int o.od, .ref o.na], eIA E o.sa 311 f, eIA E o.pa 1244 (mCp h1_ f p 311)]) C dX4_changes_103 rfl (Nat.le_of_ble_eq_true rfl) (Nat.le_of_ble_eq_true rfl) ⟨rfl, _, _, rfl, by rw [gHs, if_pos h1]; exact hF⟩
        | succ d ih =>
            intro i hi
            refine z_iload_n C dX4_changes_59 rfl rfl ?_
            refine z_sipush (v := 311) C dX4_changes_60 (by decide) ?_
            refine z_icmp_ge 93 C dX4_changes_63 (by decide) (fun h_ => absurd h_ (nI_ge (a := i) (b := 311) (by omega) (by decide))) (fun h_ => ?_)
            refine z_aload_n C dX4_changes_66 rfl rfl ?_
            refine z_get eK4 0 1 C dX4_changes_67 rfl rfl q1672 (eSame1 rfl) (by decide) rfl ?_
            refine z_sipush (v := 311) C dX4_changes_70 (by decide) ?_
            refine z_aload_n C dX4_changes_73 rfl rfl ?_
            refine z_get eK4 0 4 C dX4_changes_74 rfl rfl q1675 (eSame1 rfl) (by decide) rfl ?_
            refine z_imul (w := nI (311 * p)) C dX4_changes_77 (nI_mul_ 311 p) ?_
            refine z_iload_n C dX4_changes_78 rfl rfl ?_
            refine z_iadd (w := nI (311 * p + i)) C dX4_changes_79 (nI_add (311 * p) i) ?_
            refine z_aload_n C dX4_changes_80 rfl rfl ?_
            refine z_get eK4 0 0 C dX4_changes_81 rfl rfl q1671 (eSame1 rfl) (by decide) rfl ?_
            refine z_iload_n C dX4_changes_84 rfl rfl ?_
            refine z_iald (m := i) (v := f i) 1 C dX4_changes_85 rfl rfl (by omega) (by decide) rfl ?_
            refine z_iast (m := (311 * p + i)) (Γ2 := [eO a 4 [.ref o.sa, .ref o.pa, .ref o.ha, .ref o.xa, .int (nI p), .int o.ru, .ref o.ta, .int o.ty, .int o.sp, .int o.fr, .int o.re, .int o.ca, .int o.os, .int o.od, .ref o.na], eIA E o.sa 311 f, eIA E o.pa 1244 (mCp h1_ f p (i + 1)), rs]) 2 C dX4_changes_86 rfl rfl (by omega) (by decide) (by rw [mCp_s]; rfl) ?_
            refine z_iinc (v := nI (i + 1)) (L2 := [some (.ref a), some (.int (nI (i + 1)))]) C dX4_changes_87 rfl (nI_1 i) rfl ?_
            refine z_goto 59 C dX4_changes_90 (by decide) ?_
            exact ih (i + 1) (by omega)
      refine z_go (Γ' := [eO a 4 [.ref o.sa, .ref o.pa, .ref o.ha, .ref o.xa, .int (nI p), .int o.ru, .ref o.ta, .int o.ty, .int o.sp, .int o.fr, .int o.re, .int o.ca, .int o.os, .int o.od, .ref o.na], eIA E o.sa 311 f, eIA E o.pa 1244 (mCp h1_ f p 0), rs]) (by rw [mCp_0]) ?_
      exact K 311 0 rfl
    show eZ x E _ [eO a 4 [.ref o.sa, .ref o.pa, .ref o.ha, .ref o.xa, .int o.pn, .int o.ru, .ref o.ta, .int o.ty, .int o.sp, .int o.fr, .int o.re, .int o.ca, .int o.os, .int o.od, .ref o.na], eIA E o.sa 311 f, eIA E o.pa 1244 h, rs] 9 [some (.ref a), none] [.ref a] 0 0
    refine z_go (Γ' := [eO a 4 [.ref o.sa, .ref o.pa, .ref o.ha, .ref o.xa, .int (nI hs.length), .int o.ru, .ref o.ta, .int o.ty, .int o.sp, .int o.fr, .int o.re, .int o.ca, .int o.os, .int o.od, .ref o.na], eIA E o.sa 311 f, eIA E o.pa 1244 h, rs]) (by rw [hH.1]) ?_
    show eZ x E _ [eO a 4 [.ref o.sa, .ref o.pa, .ref o.ha, .ref o.xa, .int (nI hs.length), .int o.ru, .ref o.ta, .int o.ty, .int o.sp, .int o.fr, .int o.re, .int o.ca, .int o.os, .int o.od, .ref o.na], eIA E o.sa 311 f, eIA E o.pa 1244 h, rs] 9 [some (.ref a), none] [.ref a] 0 0
    refine z_get eK4 0 4 C dX4_changes_9 rfl rfl q1675 (eSame1 rfl) (by decide) rfl ?_
    refine z_iconst (v := 4) C dX4_changes_12 (by decide) ?_
    refine z_icmp_ne 57 C dX4_changes_13 (by decide) (fun h2 => ?_) (fun h2 => ?_)
    · have hl4 : hs.length < 4 := by rcases Nat.lt_or_ge hs.length 4 with h | h; exact h; exact absurd (by rw [show hs.length = 4 by omega]; rfl) h2
      exact F hs.length h hl4 (rH_lt hok hoks R hH hl4)
    · have hl4 : hs.length = 4 := (nI_eq (a := hs.length) (b := 4) (by omega) (by decide)).mp h2
      refine z_go (Γ' := [eO a 4 [.ref o.sa, .ref o.pa, .ref o.ha, .ref o.xa, .int (nI 4), .int o.ru, .ref o.ta, .int o.ty, .int o.sp, .int o.fr, .int o.re, .int o.ca, .int o.os, .int o.od, .ref o.na], eIA E o.sa 311 f, eIA E o.pa 1244 h, rs]) (by rw [hl4]) ?_
      show eZ x E _ [eO a 4 [.ref o.sa, .ref o.pa, .ref o.ha, .ref o.xa, .int (nI 4), .int o.ru, .ref o.ta, .int o.ty, .int o.sp, .int o.fr, .int o.re, .int o.ca, .int o.os, .int o.od, .ref o.na], eIA E o.sa 311 f, eIA E o.pa 1244 h, rs] 16 [some (.ref a), none] [] 0 0
      refine z_iconst (v := 0) C dX4_changes_16 (by decide) ?_
      refine z_istore_n (L2 := [some (.ref a), some (.int 0)]) C dX4_changes_17 rfl (Nat.le_of_ble_eq_true rfl) rfl ?_
      have K : ∀ (d i : Nat), i + d = 933 → eZ x E Q_ [eO a 4 [.ref o.sa, .ref o.pa, .ref o.ha, .ref o.xa, .int (nI 4), .int o.ru, .ref o.ta, .int o.ty, .int o.sp, .int o.fr, .int o.re, .int o.ca, .int o.os, .int o.od, .ref o.na], eIA E o.sa 311 f, eIA E o.pa 1244 (mSh h i), rs] 18 [some (.ref a), some (.int (nI i))] [] 0 0 := by
        intro d
        induction d with
        | zero =>
            intro i hi
            obtain rfl : i = 933 := by omega
            refine z_iload_n C dX4_changes_18 rfl rfl ?_
            refine z_sipush (v := 933) C dX4_changes_19 (by decide) ?_
            refine z_icmp_ge 47 C dX4_changes_22 (by decide) (fun h_ => ?_) (fun h_ => absurd h_ (absurd (by decide) h_))
            refine z_aload_n C dX4_changes_47 rfl rfl ?_
            refine z_dup C dX4_changes_48 rfl ?_
            refine z_get eK4 0 4 C dX4_changes_49 rfl rfl q1675 (eSame1 rfl) (by decide) rfl ?_
            refine z_iconst (v := 1) C dX4_changes_52 (by decide) ?_
            refine z_isub (w := nI 3) C dX4_changes_53 (by decide) ?_
            refine z_put eK4 0 4 (Γ2 := [eO a 4 [.ref o.sa, .ref o.pa, .ref o.ha, .ref o.xa, .int (nI 3), .int o.ru, .ref o.ta, .int o.ty, .int o.sp, .int o.fr, .int o.re, .int o.ca, .int o.os, .int o.od, .ref o.na], eIA E o.sa 311 f, eIA E o.pa 1244 (mSh h 933), rs]) C dX4_changes_54 rfl rfl q1675 (eSame1 rfl) (by decide) rfl rfl rfl rfl (Nat.le_of_ble_eq_true rfl) rfl ?_
            refine z_forget (L' := [some (.ref a), none]) ⟨Or.inr rfl, Or.inl rfl, trivial⟩ ?_
            exact F 3 (mSh h 933) (by decide) (rH_eq hok hoks R hH hl4)
        | succ d ih =>
            intro i hi
            refine z_iload_n C dX4_changes_18 rfl rfl ?_
            refine z_sipush (v := 933) C dX4_changes_19 (by decide) ?_
            refine z_icmp_ge 47 C dX4_changes_22 (by decide) (fun h_ => absurd h_ (nI_ge (a := i) (b := 933) (by omega) (by decide))) (fun h_ => ?_)
            refine z_aload_n C dX4_changes_25 rfl rfl ?_
            refine z_get eK4 0 1 C dX4_changes_26 rfl rfl q1672 (eSame1 rfl) (by decide) rfl ?_
            refine z_iload_n C dX4_changes_29 rfl rfl ?_
            refine z_aload_n C dX4_changes_30 rfl rfl ?_
            refine z_get eK4 0 1 C dX4_changes_31 rfl rfl q1672 (eSame1 rfl) (by decide) rfl ?_
            refine z_iload_n C dX4_changes_34 rfl rfl ?_
            refine z_sipush (v := 311) C dX4_changes_35 (by decide) ?_
            refine z_iadd (w := nI (i + 311)) C dX4_changes_38 (nI_add i 311) ?_
            refine z_iald (m := (i + 311)) (v := mSh h i (i + 311)) 2 C dX4_changes_39 rfl rfl (by omega) (by decide) rfl ?_
            refine z_iast (m := i) (Γ2 := [eO a 4 [.ref o.sa, .ref o.pa, .ref o.ha, .ref o.xa, .int (nI 4), .int o.ru, .ref o.ta, .int o.ty, .int o.sp, .int o.fr, .int o.re, .int o.ca, .int o.os, .int o.od, .ref o.na], eIA E o.sa 311 f, eIA E o.pa 1244 (mSh h (i + 1)), rs]) 2 C dX4_changes_40 rfl rfl (by omega) (by decide) (by rw [mSh_s]; rfl) ?_
            refine z_iinc (v := nI (i + 1)) (L2 := [some (.ref a), some (.int (nI (i + 1)))]) C dX4_changes_41 rfl (nI_1 i) rfl ?_
            refine z_goto 18 C dX4_changes_44 (by decide) ?_
            exact ih (i + 1) (by omega)
      refine z_go (Γ' := [eO a 4 [.ref o.sa, .ref o.pa, .ref o.ha, .ref o.xa, .int (nI 4), .int o.ru, .ref o.ta, .int o.ty, .int o.sp, .int o.fr, .int o.re, .int o.ca, .int o.os, .int o.od, .ref o.na], eIA E o.sa 311 f, eIA E o.pa 1244 (mSh h 0), rs]) (by rw [mSh_0]) ?_
      exact K 933 0 rfl
  · subst hQ_
    exact z_vret (Γ := [eO a 4 [.ref o.sa, .ref o.pa, .ref o.ha, .ref o.xa, .int o.pn, .int o.ru, .ref o.ta, .int o.ty, .int o.sp, .int o.fr, .int o.re, .int o.ca, .int o.os, .int o.od, .ref o.na], eIA E o.sa 311 f, eIA E o.pa 1244 h]) C dX4_changes_7 rfl (Nat.le_of_ble_eq_true rfl) (Nat.le_of_ble_eq_true rfl) ⟨rfl, h, o.pn, rfl, by rw [gHs, if_neg h1]; exact hH⟩

set_option maxHeartbeats 4000000 in
theorem m_Mlight {l : Launch} (hl : l.stackTraces = false) (E : eEn) (a : Nat) (o : Mo) (f : Nat → Int32) (A : Am) (hok : gOk A) (R : Rep f A) (h : Nat → Int32) (hs : List Am) (hH : rH h o.pn hs) (hoks : ∀ B ∈ hs, gOk B) (hru : o.ru = 0 ∨ o.ru = 1) (ln v : Int32) : eMet l E yX4_light (ws_ yX4_light cX4_light 4 (some .int)) ({ frames := 2, cells := 0, slots := 0, locals := 42 }) [.ref a, .int ln, .int v] [eO a 4 [.ref o.sa, .ref o.pa, .ref o.ha, .ref o.xa, .int o.pn, .int o.ru, .ref o.ta, .int o.ty, .int o.sp, .int o.fr, .int o.re, .int o.ca, .int o.os, .int o.od, .ref o.na], eIA E o.sa 311 f, eIA E o.pa 1244 h] (mPost E a o A hs (gLights A ln v)) := by
  refine eStart (cc := cX4_light) (nL := 4) (L := [some (.ref a), some (.int ln), some (.int v), none]) hl (by decide) rfl (List.forall_mem_cons.mpr ⟨rfl, (List.forall_mem_cons.mpr ⟨rfl, (List.forall_mem_cons.mpr ⟨rfl, (fun _ h => absurd h List.not_mem_nil)⟩)⟩)⟩) (Nat.le_of_ble_eq_true rfl) ?_
  intro x rs C
  show eZ x E (eQ x E (mPost E a o A hs (gLights A ln v)) rs) [eO a 4 [.ref o.sa, .ref o.pa, .ref o.ha, .ref o.xa, .int o.pn, .int o.ru, .ref o.ta, .int o.ty, .int o.sp, .int o.fr, .int o.re, .int o.ca, .int o.os, .int o.od, .ref o.na], eIA E o.sa 311 f, eIA E o.pa 1244 h, rs] 0 [some (.ref a), some (.int ln), some (.int v), none] [] 0 0
  generalize hQ_ : eQ x E (mPost E a o A hs (gLights A ln v)) rs = Q_
  refine z_iload_n C dX4_light_0 rfl rfl ?_
  refine z_callS (As := [.int ln]) (rest := []) (Δ := [eO a 4 [.ref o.sa, .ref o.pa, .ref o.ha, .ref o.xa, .int o.pn, .int o.ru, .ref o.ta, .int o.ty, .int o.sp, .int o.fr, .int o.re, .int o.ca, .int o.os, .int o.od, .ref o.na], eIA E o.sa 311 f, eIA E o.pa 1244 h, rs]) [] [0, 1, 2, 3] 1 (m_MisLane hl E ln) C dX4_light_1 rfl rfl rfl q1721 q1722 q67 q1723 (by decide +kernel) rfl (ePm 4 rfl (by decide +kernel)) rfl rfl ⟨Nat.le_of_ble_eq_true rfl, Nat.le_of_ble_eq_true rfl⟩ (Nat.le_trans eS0 (Nat.le_of_ble_eq_true rfl)) ⟨Nat.le_of_ble_eq_true rfl, Nat.le_of_ble_eq_true rfl⟩ (fun v_ Γ_ hp_ => ?_)
  obtain ⟨rfl, rfl⟩ := hp_
  show eZ x E _ [eO a 4 [.ref o.sa, .ref o.pa, .ref o.ha, .ref o.xa, .int o.pn, .int o.ru, .ref o.ta, .int o.ty, .int o.sp, .int o.fr, .int o.re, .int o.ca, .int o.os, .int o.od, .ref o.na], eIA E o.sa 311 f, eIA E o.pa 1244 h, rs] 4 [some (.ref a), some (.int ln), some (.int v), none] [.int (eB (eBt ln 0 3))] 0 0
  refine z_if_eq_B 17 C dX4_light_4 (by decide) (fun h1 => ?_) (fun h1 => ?_)
  · have hr : gLights A ln v = .inl (-1000001) := by unfold gLights gOne; rw [h1]; rfl
    refine z_ldc C dX4_light_17 rfl q1727 ?_
    subst hQ_
    exact z_ret (Γ := [eO a 4 [.ref o.sa, .ref o.pa, .ref o.ha, .ref o.xa, .int o.pn, .int o.ru, .ref o.ta, .int o.ty, .int o.sp, .int o.fr, .int o.re, .int o.ca, .int o.os, .int o.od, .ref o.na], eIA E o.sa 311 f, eIA E o.pa 1244 h]) C dX4_light_19 rfl rfl (Nat.le_of_ble_eq_true rfl) (Nat.le_of_ble_eq_true rfl) ⟨f, h, o.pn, by rw [hr]; rfl, rfl, by rw [hr]; exact R, by rw [hr]; exact hH⟩
  · refine z_iload_n C dX4_light_7 rfl rfl ?_
    refine z_iconst (v := 0) C dX4_light_8 (by decide) ?_
    refine z_bipush (v := 99) C dX4_light_9 (by decide) ?_
    refine z_callS (As := [.int v, .int 0, .int 99]) (rest := []) (Δ := [eO a 4 [.ref o.sa, .ref o.pa, .ref o.ha, .ref o.xa, .int o.pn, .int o.ru, .ref o.ta, .int o.ty, .int o.sp, .int o.fr, .int o.re, .int o.ca, .int o.os, .int o.od, .ref o.na], eIA E o.sa 311 f, eIA E o.pa 1244 h, rs]) [] [0, 1, 2, 3] 3 (m_Min hl E v 0 99) C dX4_light_11 rfl rfl rfl q1724 q1725 q67 q1726 (by decide +kernel) rfl (ePm 4 rfl (by decide +kernel)) rfl rfl ⟨Nat.le_of_ble_eq_true rfl, Nat.le_of_ble_eq_true rfl⟩ (Nat.le_trans eS0 (Nat.le_of_ble_eq_true rfl)) ⟨Nat.le_of_ble_eq_true rfl, Nat.le_of_ble_eq_true rfl⟩ (fun v_ Γ_ hp_ => ?_)
    obtain ⟨rfl, rfl⟩ := hp_
    show eZ x E _ [eO a 4 [.ref o.sa, .ref o.pa, .ref o.ha, .ref o.xa, .int o.pn, .int o.ru, .ref o.ta, .int o.ty, .int o.sp, .int o.fr, .int o.re, .int o.ca, .int o.os, .int o.od, .ref o.na], eIA E o.sa 311 f, eIA E o.pa 1244 h, rs] 14 [some (.ref a), some (.int ln), some (.int v), none] [.int (eB (eBt v 0 99))] 0 0
    refine z_if_ne_B 20 C dX4_light_14 (by decide) (fun h2 => ?_) (fun h2 => ?_)
    · have hb := h1
      obtain ⟨N, hN, rfl⟩ := eBt_N (h1)
      have hN4 : N < 4 := Nat.lt_succ_of_le hN
      obtain ⟨⟨lv, gs⟩, hx⟩ : ∃ q_, A.ls[N]? = some q_ := ⟨_, List.getElem?_eq_getElem (by rw [hok.1]; exact hN4)⟩
      have h8 : gs.length ≤ 8 := hok.2.1 _ (List.mem_of_getElem? hx)
      have hz : rZ N gs A.cs A.bs := ⟨hN4, h8, Nat.le_of_eq hok.2.2.1, hok.2.2.2.1⟩
      have R0 : rP f f N lv gs A.cs A.bs (gTF A) A.st := rP_of R hx
      show eZ x E _ [eO a 4 [.ref o.sa, .ref o.pa, .ref o.ha, .ref o.xa, .int o.pn, .int o.ru, .ref o.ta, .int o.ty, .int o.sp, .int o.fr, .int o.re, .int o.ca, .int o.os, .int o.od, .ref o.na], eIA E o.sa 311 f, eIA E o.pa 1244 h, rs] 20 [some (.ref a), some (.int (nI N)), some (.int v), none] [] 0 0
      have hr : gLights A (nI N) v = .inr (lv.li, (A.ls.set N ((v, lv.tu, lv.st, lv.gd, lv.ck), gs), A.cs, A.bs, A.st, A.u)) := by unfold gLights gOne; rw [hb, h2, gL_at hN4 hx, gSetL_at hN4]; rfl
      refine z_aload_n C dX4_light_20 rfl rfl ?_
      refine z_callV (r := (RX4, TX4, 15)) (As := []) (rest := []) (Δ := [rs]) [0, 1, 2] [3] 0 (m_Mchanges hl E a o f A hok R h hs hH hoks hru) C dX4_light_21 rfl rfl (eIn (i := 0) rfl List.mem_cons_self) rfl rfl q1733 q1735 qs28 q67 q1736 (by decide +kernel) rfl (ePm 4 rfl (by decide +kernel)) rfl rfl ⟨Nat.le_of_ble_eq_true rfl, Nat.le_of_ble_eq_true rfl⟩ (Nat.le_trans eS0 (Nat.le_of_ble_eq_true rfl)) ⟨Nat.le_of_ble_eq_true rfl, Nat.le_of_ble_eq_true rfl⟩ (fun v_ Γ_ hp_ => ?_)
      obtain ⟨rfl, h2, pn2, rfl, hH2⟩ := hp_
      show eZ x E _ [eO a 4 [.ref o.sa, .ref o.pa, .ref o.ha, .ref o.xa, .int pn2, .int o.ru, .ref o.ta, .int o.ty, .int o.sp, .int o.fr, .int o.re, .int o.ca, .int o.os, .int o.od, .ref o.na], eIA E o.sa 311 f, eIA E o.pa 1244 h2, rs] 24 [some (.ref a), some (.int (nI N)), some (.int v), none] [] 0 0
      refine z_aload_n C dX4_light_24 rfl rfl ?_
      refine z_get eK4 0 0 C dX4_light_25 rfl rfl q1671 (eSame1 rfl) (by decide) rfl ?_
      refine z_iload_n C dX4_light_28 rfl rfl ?_
      refine z_callS (As := [.int (nI N)]) (rest := [.ref o.sa]) (Δ := [eO a 4 [.ref o.sa, .ref o.pa, .ref o.ha, .ref o.xa, .int pn2, .int o.ru, .ref o.ta, .int o.ty, .int o.sp, .int o.fr, .int o.re, .int o.ca, .int o.os, .int o.od, .ref o.na], eIA E o.sa 311 f, eIA E o.pa 1244 h2, rs]) [] [0, 1, 2, 3] 1 (m_MlaneAt hl E N) C dX4_light_29 rfl rfl rfl q1668 q1669 q67 q1670 (by decide +kernel) rfl (ePm 4 rfl (by decide +kernel)) rfl rfl ⟨Nat.le_of_ble_eq_true rfl, Nat.le_of_ble_eq_true rfl⟩ (Nat.le_trans (eSm rfl eS0) (Nat.le_of_ble_eq_true rfl)) ⟨Nat.le_of_ble_eq_true rfl, Nat.le_of_ble_eq_true rfl⟩ (fun v_ Γ_ hp_ => ?_)
      obtain ⟨rfl, rfl⟩ := hp_
      show eZ x E _ [eO a 4 [.ref o.sa, .ref o.pa, .ref o.ha, .ref o.xa, .int pn2, .int o.ru, .ref o.ta, .int o.ty, .int o.sp, .int o.fr, .int o.re, .int o.ca, .int o.os, .int o.od, .ref o.na], eIA E o.sa 311 f, eIA E o.pa 1244 h2, rs] 32 [some (.ref a), some (.int (nI N)), some (.int v), none] [.int (nI (192 + 6 * N)), .ref o.sa] 0 0
      refine z_iconst (v := 1) C dX4_light_32 (by decide) ?_
      refine z_iadd (w := nI (192 + 6 * N + 1)) C dX4_light_33 (nI_add (192 + 6 * N) 1) ?_
      refine z_iald (m := (192 + 6 * N + 1)) (v := lv.li) 1 C dX4_light_34 rfl rfl (by omega) (by decide) (R0.1.2.1 1 (by decide) (by decide)) ?_
      refine z_istore_n (L2 := [some (.ref a), some (.int (nI N)), some (.int v), some (.int lv.li)]) C dX4_light_35 rfl (Nat.le_of_ble_eq_true rfl) rfl ?_
      refine z_aload_n C dX4_light_36 rfl rfl ?_
      refine z_get eK4 0 0 C dX4_light_37 rfl rfl q1671 (eSame1 rfl) (by decide) rfl ?_
      refine z_iload_n C dX4_light_40 rfl rfl ?_
      refine z_callS (As := [.int (nI N)]) (rest := [.ref o.sa]) (Δ := [eO a 4 [.ref o.sa, .ref o.pa, .ref o.ha, .ref o.xa, .int pn2, .int o.ru, .ref o.ta, .int o.ty, .int o.sp, .int o.fr, .int o.re, .int o.ca, .int o.os, .int o.od, .ref o.na], eIA E o.sa 311 f, eIA E o.pa 1244 h2, rs]) [] [0, 1, 2, 3] 1 (m_MlaneAt hl E N) C dX4_light_41 rfl rfl rfl q1668 q1669 q67 q1670 (by decide +kernel) rfl (ePm 4 rfl (by decide +kernel)) rfl rfl ⟨Nat.le_of_ble_eq_true rfl, Nat.le_of_ble_eq_true rfl⟩ (Nat.le_trans (eSm rfl eS0) (Nat.le_of_ble_eq_true rfl)) ⟨Nat.le_of_ble_eq_true rfl, Nat.le_of_ble_eq_true rfl⟩ (fun v_ Γ_ hp_ => ?_)
      obtain ⟨rfl, rfl⟩ := hp_
      show eZ x E _ [eO a 4 [.ref o.sa, .ref o.pa, .ref o.ha, .ref o.xa, .int pn2, .int o.ru, .ref o.ta, .int o.ty, .int o.sp, .int o.fr, .int o.re, .int o.ca, .int o.os, .int o.od, .ref o.na], eIA E o.sa 311 f, eIA E o.pa 1244 h2, rs] 44 [some (.ref a), some (.int (nI N)), some (.int v), some (.int lv.li)] [.int (nI (192 + 6 * N)), .ref o.sa] 0 0
      refine z_iconst (v := 1) C dX4_light_44 (by decide) ?_
      refine z_iadd (w := nI (192 + 6 * N + 1)) C dX4_light_45 (nI_add (192 + 6 * N) 1) ?_
      refine z_iload_n C dX4_light_46 rfl rfl ?_
      obtain ⟨f1, hf1⟩ : ∃ q_ : Nat → Int32, q_ = upd f (192 + 6 * N + 1) v := ⟨_, rfl⟩
      refine z_iast (m := (192 + 6 * N + 1)) (Γ2 := [eO a 4 [.ref o.sa, .ref o.pa, .ref o.ha, .ref o.xa, .int pn2, .int o.ru, .ref o.ta, .int o.ty, .int o.sp, .int o.fr, .int o.re, .int o.ca, .int o.os, .int o.od, .ref o.na], eIA E o.sa 311 f1, eIA E o.pa 1244 h2, rs]) 1 C dX4_light_47 rfl rfl (by omega) (by decide) (by rw [hf1]; rfl) ?_
      have R2 : rP f f1 N (v, lv.tu, lv.st, lv.gd, lv.ck) gs A.cs A.bs (gTF A) A.st := by rw [hf1]; exact rP_l (v, lv.tu, lv.st, lv.gd, lv.ck) 1 _ (by decide) (by intro i h1 h2; have h : i = 1 ∨ i = 2 ∨ i = 3 ∨ i = 4 ∨ i = 5 := (by omega); rcases h with rfl | rfl | rfl | rfl | rfl <;> rfl) hz R0
      refine z_iload_n C dX4_light_48 rfl rfl ?_
      subst hQ_
      exact z_ret (Γ := [eO a 4 [.ref o.sa, .ref o.pa, .ref o.ha, .ref o.xa, .int pn2, .int o.ru, .ref o.ta, .int o.ty, .int o.sp, .int o.fr, .int o.re, .int o.ca, .int o.os, .int o.od, .ref o.na], eIA E o.sa 311 f1, eIA E o.pa 1244 h2]) C dX4_light_49 rfl rfl (Nat.le_of_ble_eq_true rfl) (Nat.le_of_ble_eq_true rfl) ⟨_, h2, pn2, by rw [hr]; rfl, rfl, by rw [hr]; exact rP_to R hok hN4 R2 rfl rfl rfl rfl (gTF_A A (y := ((v, lv.tu, lv.st, lv.gd, lv.ck), gs)) hx rfl), by rw [hr]; exact hH2⟩
    · have hr : gLights A ln v = .inl (-1000001) := by unfold gLights gOne; rw [h1, h2]; rfl
      refine z_ldc C dX4_light_17 rfl q1727 ?_
      subst hQ_
      exact z_ret (Γ := [eO a 4 [.ref o.sa, .ref o.pa, .ref o.ha, .ref o.xa, .int o.pn, .int o.ru, .ref o.ta, .int o.ty, .int o.sp, .int o.fr, .int o.re, .int o.ca, .int o.os, .int o.od, .ref o.na], eIA E o.sa 311 f, eIA E o.pa 1244 h]) C dX4_light_19 rfl rfl (Nat.le_of_ble_eq_true rfl) (Nat.le_of_ble_eq_true rfl) ⟨f, h, o.pn, by rw [hr]; rfl, rfl, by rw [hr]; exact R, by rw [hr]; exact hH⟩

set_option maxHeartbeats 4000000 in
theorem m_Mturn {l : Launch} (hl : l.stackTraces = false) (E : eEn) (a : Nat) (o : Mo) (f : Nat → Int32) (A : Am) (hok : gOk A) (R : Rep f A) (h : Nat → Int32) (hs : List Am) (hH : rH h o.pn hs) (hoks : ∀ B ∈ hs, gOk B) (hru : o.ru = 0 ∨ o.ru = 1) (ln v : Int32) : eMet l E yX4_turn (ws_ yX4_turn cX4_turn 4 (some .int)) ({ frames := 2, cells := 0, slots := 0, locals := 42 }) [.ref a, .int ln, .int v] [eO a 4 [.ref o.sa, .ref o.pa, .ref o.ha, .ref o.xa, .int o.pn, .int o.ru, .ref o.ta, .int o.ty, .int o.sp, .int o.fr, .int o.re, .int o.ca, .int o.os, .int o.od, .ref o.na], eIA E o.sa 311 f, eIA E o.pa 1244 h] (mPost E a o A hs (gTurns A ln v)) := by
  refine eStart (cc := cX4_turn) (nL := 4) (L := [some (.ref a), some (.int ln), some (.int v), none]) hl (by decide) rfl (List.forall_mem_cons.mpr ⟨rfl, (List.forall_mem_cons.mpr ⟨rfl, (List.forall_mem_cons.mpr ⟨rfl, (fun _ h => absurd h List.not_mem_nil)⟩)⟩)⟩) (Nat.le_of_ble_eq_true rfl) ?_
  intro x rs C
  show eZ x E (eQ x E (mPost E a o A hs (gTurns A ln v)) rs) [eO a 4 [.ref o.sa, .ref o.pa, .ref o.ha, .ref o.xa, .int o.pn, .int o.ru, .ref o.ta, .int o.ty, .int o.sp, .int o.fr, .int o.re, .int o.ca, .int o.os, .int o.od, .ref o.na], eIA E o.sa 311 f, eIA E o.pa 1244 h, rs] 0 [some (.ref a), some (.int ln), some (.int v), none] [] 0 0
  generalize hQ_ : eQ x E (mPost E a o A hs (gTurns A ln v)) rs = Q_
  refine z_iload_n C dX4_turn_0 rfl rfl ?_
  refine z_callS (As := [.int ln]) (rest := []) (Δ := [eO a 4 [.ref o.sa, .ref o.pa, .ref o.ha, .ref o.xa, .int o.pn, .int o.ru, .ref o.ta, .int o.ty, .int o.sp, .int o.fr, .int o.re, .int o.ca, .int o.os, .int o.od, .ref o.na], eIA E o.sa 311 f, eIA E o.pa 1244 h, rs]) [] [0, 1, 2, 3] 1 (m_MisLane hl E ln) C dX4_turn_1 rfl rfl rfl q1721 q1722 q67 q1723 (by decide +kernel) rfl (ePm 4 rfl (by decide +kernel)) rfl rfl ⟨Nat.le_of_ble_eq_true rfl, Nat.le_of_ble_eq_true rfl⟩ (Nat.le_trans eS0 (Nat.le_of_ble_eq_true rfl)) ⟨Nat.le_of_ble_eq_true rfl, Nat.le_of_ble_eq_true rfl⟩ (fun v_ Γ_ hp_ => ?_)
  obtain ⟨rfl, rfl⟩ := hp_
  show eZ x E _ [eO a 4 [.ref o.sa, .ref o.pa, .ref o.ha, .ref o.xa, .int o.pn, .int o.ru, .ref o.ta, .int o.ty, .int o.sp, .int o.fr, .int o.re, .int o.ca, .int o.os, .int o.od, .ref o.na], eIA E o.sa 311 f, eIA E o.pa 1244 h, rs] 4 [some (.ref a), some (.int ln), some (.int v), none] [.int (eB (eBt ln 0 3))] 0 0
  refine z_if_eq_B 17 C dX4_turn_4 (by decide) (fun h1 => ?_) (fun h1 => ?_)
  · have hr : gTurns A ln v = .inl (-1000001) := by unfold gTurns gOne; rw [h1]; rfl
    refine z_ldc C dX4_turn_17 rfl q1727 ?_
    subst hQ_
    exact z_ret (Γ := [eO a 4 [.ref o.sa, .ref o.pa, .ref o.ha, .ref o.xa, .int o.pn, .int o.ru, .ref o.ta, .int o.ty, .int o.sp, .int o.fr, .int o.re, .int o.ca, .int o.os, .int o.od, .ref o.na], eIA E o.sa 311 f, eIA E o.pa 1244 h]) C dX4_turn_19 rfl rfl (Nat.le_of_ble_eq_true rfl) (Nat.le_of_ble_eq_true rfl) ⟨f, h, o.pn, by rw [hr]; rfl, rfl, by rw [hr]; exact R, by rw [hr]; exact hH⟩
  · refine z_iload_n C dX4_turn_7 rfl rfl ?_
    refine z_iconst (v := 1) C dX4_turn_8 (by decide) ?_
    refine z_bipush (v := 7) C dX4_turn_9 (by decide) ?_
    refine z_callS (As := [.int v, .int 1, .int 7]) (rest := []) (Δ := [eO a 4 [.ref o.sa, .ref o.pa, .ref o.ha, .ref o.xa, .int o.pn, .int o.ru, .ref o.ta, .int o.ty, .int o.sp, .int o.fr, .int o.re, .int o.ca, .int o.os, .int o.od, .ref o.na], eIA E o.sa 311 f, eIA E o.pa 1244 h, rs]) [] [0, 1, 2, 3] 3 (m_Min hl E v 1 7) C dX4_turn_11 rfl rfl rfl q1724 q1725 q67 q1726 (by decide +kernel) rfl (ePm 4 rfl (by decide +kernel)) rfl rfl ⟨Nat.le_of_ble_eq_true rfl, Nat.le_of_ble_eq_true rfl⟩ (Nat.le_trans eS0 (Nat.le_of_ble_eq_true rfl)) ⟨Nat.le_of_ble_eq_true rfl, Nat.le_of_ble_eq_true rfl⟩ (fun v_ Γ_ hp_ => ?_)
    obtain ⟨rfl, rfl⟩ := hp_
    show eZ x E _ [eO a 4 [.ref o.sa, .ref o.pa, .ref o.ha, .ref o.xa, .int o.pn, .int o.ru, .ref o.ta, .int o.ty, .int o.sp, .int o.fr, .int o.re, .int o.ca, .int o.os, .int o.od, .ref o.na], eIA E o.sa 311 f, eIA E o.pa 1244 h, rs] 14 [some (.ref a), some (.int ln), some (.int v), none] [.int (eB (eBt v 1 7))] 0 0
    refine z_if_ne_B 20 C dX4_turn_14 (by decide) (fun h2 => ?_) (fun h2 => ?_)
    · have hb := h1
      obtain ⟨N, hN, rfl⟩ := eBt_N (h1)
      have hN4 : N < 4 := Nat.lt_succ_of_le hN
      obtain ⟨⟨lv, gs⟩, hx⟩ : ∃ q_, A.ls[N]? = some q_ := ⟨_, List.getElem?_eq_getElem (by rw [hok.1]; exact hN4)⟩
      have h8 : gs.length ≤ 8 := hok.2.1 _ (List.mem_of_getElem? hx)
      have hz : rZ N gs A.cs A.bs := ⟨hN4, h8, Nat.le_of_eq hok.2.2.1, hok.2.2.2.1⟩
      have R0 : rP f f N lv gs A.cs A.bs (gTF A) A.st := rP_of R hx
      show eZ x E _ [eO a 4 [.ref o.sa, .ref o.pa, .ref o.ha, .ref o.xa, .int o.pn, .int o.ru, .ref o.ta, .int o.ty, .int o.sp, .int o.fr, .int o.re, .int o.ca, .int o.os, .int o.od, .ref o.na], eIA E o.sa 311 f, eIA E o.pa 1244 h, rs] 20 [some (.ref a), some (.int (nI N)), some (.int v), none] [] 0 0
      have hr : gTurns A (nI N) v = .inr (lv.tu, (A.ls.set N ((lv.li, v, lv.st, lv.gd, lv.ck), gs), A.cs, A.bs, A.st, A.u)) := by unfold gTurns gOne; rw [hb, h2, gL_at hN4 hx, gSetL_at hN4]; rfl
      refine z_aload_n C dX4_turn_20 rfl rfl ?_
      refine z_callV (r := (RX4, TX4, 15)) (As := []) (rest := []) (Δ := [rs]) [0, 1, 2] [3] 0 (m_Mchanges hl E a o f A hok R h hs hH hoks hru) C dX4_turn_21 rfl rfl (eIn (i := 0) rfl List.mem_cons_self) rfl rfl q1733 q1735 qs28 q67 q1736 (by decide +kernel) rfl (ePm 4 rfl (by decide +kernel)) rfl rfl ⟨Nat.le_of_ble_eq_true rfl, Nat.le_of_ble_eq_true rfl⟩ (Nat.le_trans eS0 (Nat.le_of_ble_eq_true rfl)) ⟨Nat.le_of_ble_eq_true rfl, Nat.le_of_ble_eq_true rfl⟩ (fun v_ Γ_ hp_ => ?_)
      obtain ⟨rfl, h2, pn2, rfl, hH2⟩ := hp_
      show eZ x E _ [eO a 4 [.ref o.sa, .ref o.pa, .ref o.ha, .ref o.xa, .int pn2, .int o.ru, .ref o.ta, .int o.ty, .int o.sp, .int o.fr, .int o.re, .int o.ca, .int o.os, .int o.od, .ref o.na], eIA E o.sa 311 f, eIA E o.pa 1244 h2, rs] 24 [some (.ref a), some (.int (nI N)), some (.int v), none] [] 0 0
      refine z_aload_n C dX4_turn_24 rfl rfl ?_
      refine z_get eK4 0 0 C dX4_turn_25 rfl rfl q1671 (eSame1 rfl) (by decide) rfl ?_
      refine z_iload_n C dX4_turn_28 rfl rfl ?_
      refine z_callS (As := [.int (nI N)]) (rest := [.ref o.sa]) (Δ := [eO a 4 [.ref o.sa, .ref o.pa, .ref o.ha, .ref o.xa, .int pn2, .int o.ru, .ref o.ta, .int o.ty, .int o.sp, .int o.fr, .int o.re, .int o.ca, .int o.os, .int o.od, .ref o.na], eIA E o.sa 311 f, eIA E o.pa 1244 h2, rs]) [] [0, 1, 2, 3] 1 (m_MlaneAt hl E N) C dX4_turn_29 rfl rfl rfl q1668 q1669 q67 q1670 (by decide +kernel) rfl (ePm 4 rfl (by decide +kernel)) rfl rfl ⟨Nat.le_of_ble_eq_true rfl, Nat.le_of_ble_eq_true rfl⟩ (Nat.le_trans (eSm rfl eS0) (Nat.le_of_ble_eq_true rfl)) ⟨Nat.le_of_ble_eq_true rfl, Nat.le_of_ble_eq_true rfl⟩ (fun v_ Γ_ hp_ => ?_)
      obtain ⟨rfl, rfl⟩ := hp_
      show eZ x E _ [eO a 4 [.ref o.sa, .ref o.pa, .ref o.ha, .ref o.xa, .int pn2, .int o.ru, .ref o.ta, .int o.ty, .int o.sp, .int o.fr, .int o.re, .int o.ca, .int o.os, .int o.od, .ref o.na], eIA E o.sa 311 f, eIA E o.pa 1244 h2, rs] 32 [some (.ref a), some (.int (nI N)), some (.int v), none] [.int (nI (192 + 6 * N)), .ref o.sa] 0 0
      refine z_iconst (v := 2) C dX4_turn_32 (by decide) ?_
      refine z_iadd (w := nI (192 + 6 * N + 2)) C dX4_turn_33 (nI_add (192 + 6 * N) 2) ?_
      refine z_iald (m := (192 + 6 * N + 2)) (v := lv.tu) 1 C dX4_turn_34 rfl rfl (by omega) (by decide) (R0.1.2.1 2 (by decide) (by decide)) ?_
      refine z_istore_n (L2 := [some (.ref a), some (.int (nI N)), some (.int v), some (.int lv.tu)]) C dX4_turn_35 rfl (Nat.le_of_ble_eq_true rfl) rfl ?_
      refine z_aload_n C dX4_turn_36 rfl rfl ?_
      refine z_get eK4 0 0 C dX4_turn_37 rfl rfl q1671 (eSame1 rfl) (by decide) rfl ?_
      refine z_iload_n C dX4_turn_40 rfl rfl ?_
      refine z_callS (As := [.int (nI N)]) (rest := [.ref o.sa]) (Δ := [eO a 4 [.ref o.sa, .ref o.pa, .ref o.ha, .ref o.xa, .int pn2, .int o.ru, .ref o.ta, .int o.ty, .int o.sp, .int o.fr, .int o.re, .int o.ca, .int o.os, .int o.od, .ref o.na], eIA E o.sa 311 f, eIA E o.pa 1244 h2, rs]) [] [0, 1, 2, 3] 1 (m_MlaneAt hl E N) C dX4_turn_41 rfl rfl rfl q1668 q1669 q67 q1670 (by decide +kernel) rfl (ePm 4 rfl (by decide +kernel)) rfl rfl ⟨Nat.le_of_ble_eq_true rfl, Nat.le_of_ble_eq_true rfl⟩ (Nat.le_trans (eSm rfl eS0) (Nat.le_of_ble_eq_true rfl)) ⟨Nat.le_of_ble_eq_true rfl, Nat.le_of_ble_eq_true rfl⟩ (fun v_ Γ_ hp_ => ?_)
      obtain ⟨rfl, rfl⟩ := hp_
      show eZ x E _ [eO a 4 [.ref o.sa, .ref o.pa, .ref o.ha, .ref o.xa, .int pn2, .int o.ru, .ref o.ta, .int o.ty, .int o.sp, .int o.fr, .int o.re, .int o.ca, .int o.os, .int o.od, .ref o.na], eIA E o.sa 311 f, eIA E o.pa 1244 h2, rs] 44 [some (.ref a), some (.int (nI N)), some (.int v), some (.int lv.tu)] [.int (nI (192 + 6 * N)), .ref o.sa] 0 0
      refine z_iconst (v := 2) C dX4_turn_44 (by decide) ?_
      refine z_iadd (w := nI (192 + 6 * N + 2)) C dX4_turn_45 (nI_add (192 + 6 * N) 2) ?_
      refine z_iload_n C dX4_turn_46 rfl rfl ?_
      obtain ⟨f1, hf1⟩ : ∃ q_ : Nat → Int32, q_ = upd f (192 + 6 * N + 2) v := ⟨_, rfl⟩
      refine z_iast (m := (192 + 6 * N + 2)) (Γ2 := [eO a 4 [.ref o.sa, .ref o.pa, .ref o.ha, .ref o.xa, .int pn2, .int o.ru, .ref o.ta, .int o.ty, .int o.sp, .int o.fr, .int o.re, .int o.ca, .int o.os, .int o.od, .ref o.na], eIA E o.sa 311 f1, eIA E o.pa 1244 h2, rs]) 1 C dX4_turn_47 rfl rfl (by omega) (by decide) (by rw [hf1]; rfl) ?_
      have R2 : rP f f1 N (lv.li, v, lv.st, lv.gd, lv.ck) gs A.cs A.bs (gTF A) A.st := by rw [hf1]; exact rP_l (lv.li, v, lv.st, lv.gd, lv.ck) 2 _ (by decide) (by intro i h1 h2; have h : i = 1 ∨ i = 2 ∨ i = 3 ∨ i = 4 ∨ i = 5 := (by omega); rcases h with rfl | rfl | rfl | rfl | rfl <;> rfl) hz R0
      refine z_iload_n C dX4_turn_48 rfl rfl ?_
      subst hQ_
      exact z_ret (Γ := [eO a 4 [.ref o.sa, .ref o.pa, .ref o.ha, .ref o.xa, .int pn2, .int o.ru, .ref o.ta, .int o.ty, .int o.sp, .int o.fr, .int o.re, .int o.ca, .int o.os, .int o.od, .ref o.na], eIA E o.sa 311 f1, eIA E o.pa 1244 h2]) C dX4_turn_49 rfl rfl (Nat.le_of_ble_eq_true rfl) (Nat.le_of_ble_eq_true rfl) ⟨_, h2, pn2, by rw [hr]; rfl, rfl, by rw [hr]; exact rP_to R hok hN4 R2 rfl rfl rfl rfl (gTF_A A (y := ((lv.li, v, lv.st, lv.gd, lv.ck), gs)) hx rfl), by rw [hr]; exact hH2⟩
    · have hr : gTurns A ln v = .inl (-1000001) := by unfold gTurns gOne; rw [h1, h2]; rfl
      refine z_ldc C dX4_turn_17 rfl q1727 ?_
      subst hQ_
      exact z_ret (Γ := [eO a 4 [.ref o.sa, .ref o.pa, .ref o.ha, .ref o.xa, .int o.pn, .int o.ru, .ref o.ta, .int o.ty, .int o.sp, .int o.fr, .int o.re, .int o.ca, .int o.os, .int o.od, .ref o.na], eIA E o.sa 311 f, eIA E o.pa 1244 h]) C dX4_turn_19 rfl rfl (Nat.le_of_ble_eq_true rfl) (Nat.le_of_ble_eq_true rfl) ⟨f, h, o.pn, by rw [hr]; rfl, rfl, by rw [hr]; exact R, by rw [hr]; exact hH⟩

set_option maxHeartbeats 4000000 in
theorem m_Mclean {l : Launch} (hl : l.stackTraces = false) (E : eEn) (a : Nat) (o : Mo) (f : Nat → Int32) (A : Am) (hok : gOk A) (R : Rep f A) (h : Nat → Int32) (hs : List Am) (hH : rH h o.pn hs) (hoks : ∀ B ∈ hs, gOk B) (hru : o.ru = 0 ∨ o.ru = 1) (ln : Int32) : eMet l E yX4_clean (ws_ yX4_clean cX4_clean 3 (some .int)) ({ frames := 2, cells := 0, slots := 0, locals := 42 }) [.ref a, .int ln] [eO a 4 [.ref o.sa, .ref o.pa, .ref o.ha, .ref o.xa, .int o.pn, .int o.ru, .ref o.ta, .int o.ty, .int o.sp, .int o.fr, .int o.re, .int o.ca, .int o.os, .int o.od, .ref o.na], eIA E o.sa 311 f, eIA E o.pa 1244 h] (mPost E a o A hs (gCleans A ln)) := by
  refine eStart (cc := cX4_clean) (nL := 3) (L := [some (.ref a), some (.int ln), none]) hl (by decide) rfl (List.forall_mem_cons.mpr ⟨rfl, (List.forall_mem_cons.mpr ⟨rfl, (fun _ h => absurd h List.not_mem_nil)⟩)⟩) (Nat.le_of_ble_eq_true rfl) ?_
  intro x rs C
  show eZ x E (eQ x E (mPost E a o A hs (gCleans A ln)) rs) [eO a 4 [.ref o.sa, .ref o.pa, .ref o.ha, .ref o.xa, .int o.pn, .int o.ru, .ref o.ta, .int o.ty, .int o.sp, .int o.fr, .int o.re, .int o.ca, .int o.os, .int o.od, .ref o.na], eIA E o.sa 311 f, eIA E o.pa 1244 h, rs] 0 [some (.ref a), some (.int ln), none] [] 0 0
  generalize hQ_ : eQ x E (mPost E a o A hs (gCleans A ln)) rs = Q_
  refine z_iload_n C dX4_clean_0 rfl rfl ?_
  refine z_callS (As := [.int ln]) (rest := []) (Δ := [eO a 4 [.ref o.sa, .ref o.pa, .ref o.ha, .ref o.xa, .int o.pn, .int o.ru, .ref o.ta, .int o.ty, .int o.sp, .int o.fr, .int o.re, .int o.ca, .int o.os, .int o.od, .ref o.na], eIA E o.sa 311 f, eIA E o.pa 1244 h, rs]) [] [0, 1, 2, 3] 1 (m_MisLane hl E ln) C dX4_clean_1 rfl rfl rfl q1721 q1722 q67 q1723 (by decide +kernel) rfl (ePm 4 rfl (by decide +kernel)) rfl rfl ⟨Nat.le_of_ble_eq_true rfl, Nat.le_of_ble_eq_true rfl⟩ (Nat.le_trans eS0 (Nat.le_of_ble_eq_true rfl)) ⟨Nat.le_of_ble_eq_true rfl, Nat.le_of_ble_eq_true rfl⟩ (fun v_ Γ_ hp_ => ?_)
  obtain ⟨rfl, rfl⟩ := hp_
  show eZ x E _ [eO a 4 [.ref o.sa, .ref o.pa, .ref o.ha, .ref o.xa, .int o.pn, .int o.ru, .ref o.ta, .int o.ty, .int o.sp, .int o.fr, .int o.re, .int o.ca, .int o.os, .int o.od, .ref o.na], eIA E o.sa 311 f, eIA E o.pa 1244 h, rs] 4 [some (.ref a), some (.int ln), none] [.int (eB (eBt ln 0 3))] 0 0
  refine z_if_ne_B 10 C dX4_clean_4 (by decide) (fun h1 => ?_) (fun h1 => ?_)
  · have hb := h1
    obtain ⟨N, hN, rfl⟩ := eBt_N (h1)
    have hN4 : N < 4 := Nat.lt_succ_of_le hN
    obtain ⟨⟨lv, gs⟩, hx⟩ : ∃ q_, A.ls[N]? = some q_ := ⟨_, List.getElem?_eq_getElem (by rw [hok.1]; exact hN4)⟩
    have h8 : gs.length ≤ 8 := hok.2.1 _ (List.mem_of_getElem? hx)
    have hz : rZ N gs A.cs A.bs := ⟨hN4, h8, Nat.le_of_eq hok.2.2.1, hok.2.2.2.1⟩
    have R0 : rP f f N lv gs A.cs A.bs (gTF A) A.st := rP_of R hx
    show eZ x E _ [eO a 4 [.ref o.sa, .ref o.pa, .ref o.ha, .ref o.xa, .int o.pn, .int o.ru, .ref o.ta, .int o.ty, .int o.sp, .int o.fr, .int o.re, .int o.ca, .int o.os, .int o.od, .ref o.na], eIA E o.sa 311 f, eIA E o.pa 1244 h, rs] 10 [some (.ref a), some (.int (nI N)), none] [] 0 0
    have hr : gCleans A (nI N) = .inr (lv.st, (A.ls.set N ((lv.li, lv.tu, 0, lv.gd, lv.ck), gs), A.cs, A.bs, A.st, A.u)) := by unfold gCleans gOne; rw [hb, gL_at hN4 hx, gSetL_at hN4]; rfl
    refine z_aload_n C dX4_clean_10 rfl rfl ?_
    refine z_callV (r := (RX4, TX4, 15)) (As := []) (rest := []) (Δ := [rs]) [0, 1, 2] [3] 0 (m_Mchanges hl E a o f A hok R h hs hH hoks hru) C dX4_clean_11 rfl rfl (eIn (i := 0) rfl List.mem_cons_self) rfl rfl q1733 q1735 qs28 q67 q1736 (by decide +kernel) rfl (ePm 4 rfl (by decide +kernel)) rfl rfl ⟨Nat.le_of_ble_eq_true rfl, Nat.le_of_ble_eq_true rfl⟩ (Nat.le_trans eS0 (Nat.le_of_ble_eq_true rfl)) ⟨Nat.le_of_ble_eq_true rfl, Nat.le_of_ble_eq_true rfl⟩ (fun v_ Γ_ hp_ => ?_)
    obtain ⟨rfl, h2, pn2, rfl, hH2⟩ := hp_
    show eZ x E _ [eO a 4 [.ref o.sa, .ref o.pa, .ref o.ha, .ref o.xa, .int pn2, .int o.ru, .ref o.ta, .int o.ty, .int o.sp, .int o.fr, .int o.re, .int o.ca, .int o.os, .int o.od, .ref o.na], eIA E o.sa 311 f, eIA E o.pa 1244 h2, rs] 14 [some (.ref a), some (.int (nI N)), none] [] 0 0
    refine z_aload_n C dX4_clean_14 rfl rfl ?_
    refine z_get eK4 0 0 C dX4_clean_15 rfl rfl q1671 (eSame1 rfl) (by decide) rfl ?_
    refine z_iload_n C dX4_clean_18 rfl rfl ?_
    refine z_callS (As := [.int (nI N)]) (rest := [.ref o.sa]) (Δ := [eO a 4 [.ref o.sa, .ref o.pa, .ref o.ha, .ref o.xa, .int pn2, .int o.ru, .ref o.ta, .int o.ty, .int o.sp, .int o.fr, .int o.re, .int o.ca, .int o.os, .int o.od, .ref o.na], eIA E o.sa 311 f, eIA E o.pa 1244 h2, rs]) [] [0, 1, 2, 3] 1 (m_MlaneAt hl E N) C dX4_clean_19 rfl rfl rfl q1668 q1669 q67 q1670 (by decide +kernel) rfl (ePm 4 rfl (by decide +kernel)) rfl rfl ⟨Nat.le_of_ble_eq_true rfl, Nat.le_of_ble_eq_true rfl⟩ (Nat.le_trans (eSm rfl eS0) (Nat.le_of_ble_eq_true rfl)) ⟨Nat.le_of_ble_eq_true rfl, Nat.le_of_ble_eq_true rfl⟩ (fun v_ Γ_ hp_ => ?_)
    obtain ⟨rfl, rfl⟩ := hp_
    show eZ x E _ [eO a 4 [.ref o.sa, .ref o.pa, .ref o.ha, .ref o.xa, .int pn2, .int o.ru, .ref o.ta, .int o.ty, .int o.sp, .int o.fr, .int o.re, .int o.ca, .int o.os, .int o.od, .ref o.na], eIA E o.sa 311 f, eIA E o.pa 1244 h2, rs] 22 [some (.ref a), some (.int (nI N)), none] [.int (nI (192 + 6 * N)), .ref o.sa] 0 0
    refine z_iconst (v := 3) C dX4_clean_22 (by decide) ?_
    refine z_iadd (w := nI (192 + 6 * N + 3)) C dX4_clean_23 (nI_add (192 + 6 * N) 3) ?_
    refine z_iald (m := (192 + 6 * N + 3)) (v := lv.st) 1 C dX4_clean_24 rfl rfl (by omega) (by decide) (R0.1.2.1 3 (by decide) (by decide)) ?_
    refine z_istore_n (L2 := [some (.ref a), some (.int (nI N)), some (.int lv.st)]) C dX4_clean_25 rfl (Nat.le_of_ble_eq_true rfl) rfl ?_
    refine z_aload_n C dX4_clean_26 rfl rfl ?_
    refine z_get eK4 0 0 C dX4_clean_27 rfl rfl q1671 (eSame1 rfl) (by decide) rfl ?_
    refine z_iload_n C dX4_clean_30 rfl rfl ?_
    refine z_callS (As := [.int (nI N)]) (rest := [.ref o.sa]) (Δ := [eO a 4 [.ref o.sa, .ref o.pa, .ref o.ha, .ref o.xa, .int pn2, .int o.ru, .ref o.ta, .int o.ty, .int o.sp, .int o.fr, .int o.re, .int o.ca, .int o.os, .int o.od, .ref o.na], eIA E o.sa 311 f, eIA E o.pa 1244 h2, rs]) [] [0, 1, 2, 3] 1 (m_MlaneAt hl E N) C dX4_clean_31 rfl rfl rfl q1668 q1669 q67 q1670 (by decide +kernel) rfl (ePm 4 rfl (by decide +kernel)) rfl rfl ⟨Nat.le_of_ble_eq_true rfl, Nat.le_of_ble_eq_true rfl⟩ (Nat.le_trans (eSm rfl eS0) (Nat.le_of_ble_eq_true rfl)) ⟨Nat.le_of_ble_eq_true rfl, Nat.le_of_ble_eq_true rfl⟩ (fun v_ Γ_ hp_ => ?_)
    obtain ⟨rfl, rfl⟩ := hp_
    show eZ x E _ [eO a 4 [.ref o.sa, .ref o.pa, .ref o.ha, .ref o.xa, .int pn2, .int o.ru, .ref o.ta, .int o.ty, .int o.sp, .int o.fr, .int o.re, .int o.ca, .int o.os, .int o.od, .ref o.na], eIA E o.sa 311 f, eIA E o.pa 1244 h2, rs] 34 [some (.ref a), some (.int (nI N)), some (.int lv.st)] [.int (nI (192 + 6 * N)), .ref o.sa] 0 0
    refine z_iconst (v := 3) C dX4_clean_34 (by decide) ?_
    refine z_iadd (w := nI (192 + 6 * N + 3)) C dX4_clean_35 (nI_add (192 + 6 * N) 3) ?_
    refine z_iconst (v := 0) C dX4_clean_36 (by decide) ?_
    obtain ⟨f1, hf1⟩ : ∃ q_ : Nat → Int32, q_ = upd f (192 + 6 * N + 3) 0 := ⟨_, rfl⟩
    refine z_iast (m := (192 + 6 * N + 3)) (Γ2 := [eO a 4 [.ref o.sa, .ref o.pa, .ref o.ha, .ref o.xa, .int pn2, .int o.ru, .ref o.ta, .int o.ty, .int o.sp, .int o.fr, .int o.re, .int o.ca, .int o.os, .int o.od, .ref o.na], eIA E o.sa 311 f1, eIA E o.pa 1244 h2, rs]) 1 C dX4_clean_37 rfl rfl (by omega) (by decide) (by rw [hf1]; rfl) ?_
    have R2 : rP f f1 N (lv.li, lv.tu, 0, lv.gd, lv.ck) gs A.cs A.bs (gTF A) A.st := by rw [hf1]; exact rP_l (lv.li, lv.tu, 0, lv.gd, lv.ck) 3 _ (by decide) (by intro i h1 h2; have h : i = 1 ∨ i = 2 ∨ i = 3 ∨ i = 4 ∨ i = 5 := (by omega); rcases h with rfl | rfl | rfl | rfl | rfl <;> rfl) hz R0
    refine z_iload_n C dX4_clean_38 rfl rfl ?_
    subst hQ_
    exact z_ret (Γ := [eO a 4 [.ref o.sa, .ref o.pa, .ref o.ha, .ref o.xa, .int pn2, .int o.ru, .ref o.ta, .int o.ty, .int o.sp, .int o.fr, .int o.re, .int o.ca, .int o.os, .int o.od, .ref o.na], eIA E o.sa 311 f1, eIA E o.pa 1244 h2]) C dX4_clean_39 rfl rfl (Nat.le_of_ble_eq_true rfl) (Nat.le_of_ble_eq_true rfl) ⟨_, h2, pn2, by rw [hr]; rfl, rfl, by rw [hr]; exact rP_to R hok hN4 R2 rfl rfl rfl rfl (gTF_A A (y := ((lv.li, lv.tu, 0, lv.gd, lv.ck), gs)) hx rfl), by rw [hr]; exact hH2⟩
  · have hr : gCleans A ln = .inl (-1000001) := by unfold gCleans gOne; rw [h1]; rfl
    refine z_ldc C dX4_clean_7 rfl q1727 ?_
    subst hQ_
    exact z_ret (Γ := [eO a 4 [.ref o.sa, .ref o.pa, .ref o.ha, .ref o.xa, .int o.pn, .int o.ru, .ref o.ta, .int o.ty, .int o.sp, .int o.fr, .int o.re, .int o.ca, .int o.os, .int o.od, .ref o.na], eIA E o.sa 311 f, eIA E o.pa 1244 h]) C dX4_clean_9 rfl rfl (Nat.le_of_ble_eq_true rfl) (Nat.le_of_ble_eq_true rfl) ⟨f, h, o.pn, by rw [hr]; rfl, rfl, by rw [hr]; exact R, by rw [hr]; exact hH⟩

set_option maxHeartbeats 4000000 in
theorem m_Mrun {l : Launch} (hl : l.stackTraces = false) (E : eEn) (a : Nat) (o : Mo) (f : Nat → Int32) (A : Am) (hok : gOk A) (hwf : gWf A) (R : Rep f A) (h : Nat → Int32) (hs : List Am) (hH : rH h o.pn hs) (hoks : ∀ B ∈ hs, gOk B) (hru : o.ru = 0 ∨ o.ru = 1) (n : Int32) : eMet l E yX4_run (ws_ yX4_run cX4_run 2 (some .int)) ({ frames := 7, cells := 0, slots := 0, locals := 158 }) [.ref a, .int n] [eO a 4 [.ref o.sa, .ref o.pa, .ref o.ha, .ref o.xa, .int o.pn, .int o.ru, .ref o.ta, .int o.ty, .int o.sp, .int o.fr, .int o.re, .int o.ca, .int o.os, .int o.od, .ref o.na], eIA E o.sa 311 f, eIA E o.pa 1244 h] (mPost E a o A hs (gRuns A n)) := by
  refine eStart (cc := cX4_run) (nL := 2) (L := [some (.ref a), some (.int n)]) hl (by decide) rfl (List.forall_mem_cons.mpr ⟨rfl, (List.forall_mem_cons.mpr ⟨rfl, (fun _ h => absurd h List.not_mem_nil)⟩)⟩) (Nat.le_of_ble_eq_true rfl) ?_
  intro x rs C
  show eZ x E (eQ x E (mPost E a o A hs (gRuns A n)) rs) [eO a 4 [.ref o.sa, .ref o.pa, .ref o.ha, .ref o.xa, .int o.pn, .int o.ru, .ref o.ta, .int o.ty, .int o.sp, .int o.fr, .int o.re, .int o.ca, .int o.os, .int o.od, .ref o.na], eIA E o.sa 311 f, eIA E o.pa 1244 h, rs] 0 [some (.ref a), some (.int n)] [] 0 0
  generalize hQ_ : eQ x E (mPost E a o A hs (gRuns A n)) rs = Q_
  refine z_iload_n C dX4_run_0 rfl rfl ?_
  refine z_iconst (v := 1) C dX4_run_1 (by decide) ?_
  refine z_bipush (v := 50) C dX4_run_2 (by decide) ?_
  refine z_callS (As := [.int n, .int 1, .int 50]) (rest := []) (Δ := [eO a 4 [.ref o.sa, .ref o.pa, .ref o.ha, .ref o.xa, .int o.pn, .int o.ru, .ref o.ta, .int o.ty, .int o.sp, .int o.fr, .int o.re, .int o.ca, .int o.os, .int o.od, .ref o.na], eIA E o.sa 311 f, eIA E o.pa 1244 h, rs]) [] [0, 1, 2, 3] 3 (m_Min hl E n 1 50) C dX4_run_4 rfl rfl rfl q1724 q1725 q67 q1726 (by decide +kernel) rfl (ePm 4 rfl (by decide +kernel)) rfl rfl ⟨Nat.le_of_ble_eq_true rfl, Nat.le_of_ble_eq_true rfl⟩ (Nat.le_trans eS0 (Nat.le_of_ble_eq_true rfl)) ⟨Nat.le_of_ble_eq_true rfl, Nat.le_of_ble_eq_true rfl⟩ (fun v_ Γ_ hp_ => ?_)
  obtain ⟨rfl, rfl⟩ := hp_
  show eZ x E _ [eO a 4 [.ref o.sa, .ref o.pa, .ref o.ha, .ref o.xa, .int o.pn, .int o.ru, .ref o.ta, .int o.ty, .int o.sp, .int o.fr, .int o.re, .int o.ca, .int o.os, .int o.od, .ref o.na], eIA E o.sa 311 f, eIA E o.pa 1244 h, rs] 7 [some (.ref a), some (.int n)] [.int (eB (eBt n 1 50))] 0 0
  refine z_if_ne_B 13 C dX4_run_7 (by decide) (fun h1 => ?_) (fun h1 => ?_)
  · refine z_aload_n C dX4_run_13 rfl rfl ?_
    refine z_get eK4 0 0 C dX4_run_14 rfl rfl q1671 (eSame1 rfl) (by decide) rfl ?_
    refine z_sipush (v := 296) C dX4_run_17 (by decide) ?_
    refine z_iald (m := 296) (v := A.u.tk) 1 C dX4_run_20 rfl rfl (by omega) (by decide) (R.2.2.2.1 0 (by decide)) ?_
    refine z_iload_n C dX4_run_21 rfl rfl ?_
    refine z_iadd (w := A.u.tk + n) C dX4_run_22 rfl ?_
    refine z_sipush (v := 9999) C dX4_run_23 (by decide) ?_
    refine z_icmp_le 32 C dX4_run_26 (by decide) (fun h2 => ?_) (fun h2 => ?_)
    · have hn50 : nN n ≤ 50 := nN_le (Int32.le_trans (by decide) (of_decide_eq_true h1).1) (of_decide_eq_true h1).2
      have hn : n = nI (nN n) := nI_nN (Int32.le_trans (by decide) (of_decide_eq_true h1).1)
      have hr : gRuns A n = .inr (gTicks (nN n) (0, A)) := by unfold gRuns; rw [if_pos h1, if_pos h2]
      refine z_aload_n C dX4_run_32 rfl rfl ?_
      refine z_callV (r := (RX4, TX4, 15)) (As := []) (rest := []) (Δ := [rs]) [0, 1, 2] [3] 0 (m_Mchanges hl E a o f A hok R h hs hH hoks hru) C dX4_run_33 rfl rfl (eIn (i := 0) rfl List.mem_cons_self) rfl rfl q1733 q1735 qs28 q67 q1736 (by decide +kernel) rfl (ePm 4 rfl (by decide +kernel)) rfl rfl ⟨Nat.le_of_ble_eq_true rfl, Nat.le_of_ble_eq_true rfl⟩ (Nat.le_trans eS0 (Nat.le_of_ble_eq_true rfl)) ⟨Nat.le_of_ble_eq_true rfl, Nat.le_of_ble_eq_true rfl⟩ (fun v_ Γ_ hp_ => ?_)
      obtain ⟨rfl, h2, pn2, rfl, hH2⟩ := hp_
      show eZ x E _ [eO a 4 [.ref o.sa, .ref o.pa, .ref o.ha, .ref o.xa, .int pn2, .int o.ru, .ref o.ta, .int o.ty, .int o.sp, .int o.fr, .int o.re, .int o.ca, .int o.os, .int o.od, .ref o.na], eIA E o.sa 311 f, eIA E o.pa 1244 h2, rs] 36 [some (.ref a), some (.int n)] [] 0 0
      refine z_aload_n C dX4_run_36 rfl rfl ?_
      refine z_iload_n C dX4_run_37 rfl rfl ?_
      refine z_is (w := nI (nN n)) hn ?_
      refine z_callV (r := (RX4, TX4, 15)) (As := [.int (nI (nN n))]) (rest := []) (Δ := [eIA E o.pa 1244 h2, rs]) [0, 1] [2, 3] 1 (m_Mpass hl E a (o.sa, o.pa, o.ha, o.xa, pn2, o.ru, o.ta, o.ty, o.sp, o.fr, o.re, o.ca, o.os, o.od, o.na) f A hok hwf R (nN n) hn50) C dX4_run_38 rfl rfl (eIn (i := 0) rfl List.mem_cons_self) rfl rfl q1761 q1763 qs29 q67 q1764 (by decide +kernel) rfl (ePm 4 rfl (by decide +kernel)) rfl rfl ⟨Nat.le_of_ble_eq_true rfl, Nat.le_of_ble_eq_true rfl⟩ (Nat.le_trans eS0 (Nat.le_of_ble_eq_true rfl)) ⟨Nat.le_of_ble_eq_true rfl, Nat.le_of_ble_eq_true rfl⟩ (fun v_ Γ_ hp_ => ?_)
      obtain ⟨rfl, f2, rfl, R2⟩ := hp_
      show eZ x E _ [eO a 4 [.ref o.sa, .ref o.pa, .ref o.ha, .ref o.xa, .int pn2, .int o.ru, .ref o.ta, .int o.ty, .int o.sp, .int o.fr, .int o.re, .int o.ca, .int o.os, .int o.od, .ref o.na], eIA E o.sa 311 f2, eIA E o.pa 1244 h2, rs] 41 [some (.ref a), some (.int n)] [.int ((gTicks (nN n) (0, A)).1)] 0 0
      subst hQ_
      exact z_ret (Γ := [eO a 4 [.ref o.sa, .ref o.pa, .ref o.ha, .ref o.xa, .int pn2, .int o.ru, .ref o.ta, .int o.ty, .int o.sp, .int o.fr, .int o.re, .int o.ca, .int o.os, .int o.od, .ref o.na], eIA E o.sa 311 f2, eIA E o.pa 1244 h2]) C dX4_run_41 rfl rfl (Nat.le_of_ble_eq_true rfl) (Nat.le_of_ble_eq_true rfl) ⟨_, h2, pn2, by rw [hr]; rfl, rfl, by rw [hr]; exact R2, by rw [hr]; exact hH2⟩
    · have hr : gRuns A n = .inl (-1000003) := by unfold gRuns; rw [if_pos h1, if_neg h2]
      refine z_ldc C dX4_run_29 rfl q1732 ?_
      subst hQ_
      exact z_ret (Γ := [eO a 4 [.ref o.sa, .ref o.pa, .ref o.ha, .ref o.xa, .int o.pn, .int o.ru, .ref o.ta, .int o.ty, .int o.sp, .int o.fr, .int o.re, .int o.ca, .int o.os, .int o.od, .ref o.na], eIA E o.sa 311 f, eIA E o.pa 1244 h]) C dX4_run_31 rfl rfl (Nat.le_of_ble_eq_true rfl) (Nat.le_of_ble_eq_true rfl) ⟨f, h, o.pn, by rw [hr]; rfl, rfl, by rw [hr]; exact R, by rw [hr]; exact hH⟩
  · have hr : gRuns A n = .inl (-1000001) := by unfold gRuns; rw [h1]; rfl
    refine z_ldc C dX4_run_10 rfl q1727 ?_
    subst hQ_
    exact z_ret (Γ := [eO a 4 [.ref o.sa, .ref o.pa, .ref o.ha, .ref o.xa, .int o.pn, .int o.ru, .ref o.ta, .int o.ty, .int o.sp, .int o.fr, .int o.re, .int o.ca, .int o.os, .int o.od, .ref o.na], eIA E o.sa 311 f, eIA E o.pa 1244 h]) C dX4_run_12 rfl rfl (Nat.le_of_ble_eq_true rfl) (Nat.le_of_ble_eq_true rfl) ⟨f, h, o.pn, by rw [hr]; rfl, rfl, by rw [hr]; exact R, by rw [hr]; exact hH⟩
