/-! ===== lanes ===== -/
set_option maxRecDepth 100000
def eFg : List (Option Value) → List (Option Value) → Prop
  | [], [] => True
  | a :: L, b :: L' => (b = none ∨ a = b) ∧ eFg L L'
  | _, _ => False
theorem eFg_at {L L' : List (Option Value)} (h : eFg L L') : L'.length = L.length ∧ ∀ (i : Nat) (v : Value), L'[i]? = some (some v) → L[i]? = some (some v) := by
  induction L generalizing L' with
  | nil => cases L' with
    | nil => exact ⟨rfl, fun i v h => h⟩
    | cons b L' => exact h.elim
  | cons a L ih => cases L' with
    | nil => exact h.elim
    | cons b L' =>
      obtain ⟨h1, h2⟩ := ih h.2
      refine ⟨by simp [h1], fun i v hi => ?_⟩
      cases i with
      | zero =>
        rcases h.1 with h3 | h3
        · subst h3; cases hi
        · subst h3; exact hi
      | succ i => exact h2 i v hi
theorem eL.forget {ls : Array Slot} {L L' : List (Option Value)} (h : eL ls L) (hf : eFg L L') : eL ls L' := by
  obtain ⟨h1, h2⟩ := eFg_at hf
  refine ⟨⟨by rw [h1]; exact h.1.1, h.1.2.1, fun q hq => ?_⟩, fun v hv => ?_⟩
  · obtain ⟨i, w⟩ := q
    exact h.at (h2 i w (eLl_mem.mp hq))
  · obtain ⟨i, hi⟩ := List.getElem?_of_mem hv
    exact h.2 v (List.mem_of_getElem? (h2 i v hi))
theorem z_forget {x : eCx} {E : eEn} {Q : State → Prop} {Γ : List va_W} {pc : Nat} {L L' : List (Option Value)} {st : List Value} {k n : Nat} (hf : eFg L L') (kk : eZ x E Q Γ pc L' st k n) : eZ x E Q Γ pc L st k n :=
  fun H locs ls hP hD hS hl => kk H locs ls hP hD hS (hl.forget hf)
/-- a queue's eggs: ((node, egg's address), egg) -/
abbrev Qz : Type := List ((Nat × Nat) × Eg)
abbrev qX (zs : Qz) : List (Nat × Nat) := zs.map Prod.fst
abbrev qG (zs : Qz) : List Eg := zs.map Prod.snd
def qE (zs : Qz) : va_W := zs.map fun z => (z.1.2, .inr (5, [.int z.2.w, .int z.2.sh, .int z.2.y, .int z.2.c, .int z.2.sp, .int z.2.t]))
theorem qE_cons (z : (Nat × Nat) × Eg) (zs : Qz) : qE (z :: zs) = eEg z.1.2 z.2 ++ qE zs := rfl
theorem qE_app (zs ys : Qz) : qE (zs ++ ys) = qE zs ++ qE ys := List.map_append
theorem qE_nil : qE [] = [] := rfl
abbrev Lv : Type := Int32 × Int32 × Int32 × Int32 × Int32
abbrev Lv.li (g : Lv) : Int32 := g.1
abbrev Lv.tu (g : Lv) : Int32 := g.2.1
abbrev Lv.st (g : Lv) : Int32 := g.2.2.1
abbrev Lv.gd (g : Lv) : Int32 := g.2.2.2.1
abbrev Lv.ck (g : Lv) : Int32 := g.2.2.2.2
abbrev eLo (a qa : Nat) (nu : Int32) (v : Lv) : va_W := eO a 2 [.int nu, .ref qa, .int v.li, .int v.tu, .int v.st, .int v.gd, .int v.ck]
/-- the sides that are seen with n looks -/
def gSeenL (tu : Int32) : Nat → Int32
  | 0 => 0
  | n + 1 => gSeenL tu n ||| ((1 : Int32) <<< ((nI n * tu - nI n * tu / 8 * 8) &&& 31))

set_option maxHeartbeats 4000000 in
theorem m_Lane_init {l : Launch} (hl : l.stackTraces = false) (E : eEn) (a : Nat) (nu : Int32) : eMet l E yX2_init (ws_ yX2_init cX2_init 2 none) ({ frames := 5, cells := 1, slots := 4, locals := 92 }) [.ref a, .int nu] [eO a 2 [.int 0, .null, .int 0, .int 0, .int 0, .int 0, .int 0]] (fun v Γ => v = none ∧ ∃ qa, Γ = [eLo a qa nu (50, 1, 0, 0, 0), eLL qa 0 []]) := by
  refine eStart (cc := cX2_init) (nL := 2) (L := [some (.ref a), some (.int nu)]) hl (by decide) rfl (List.forall_mem_cons.mpr ⟨rfl, (List.forall_mem_cons.mpr ⟨rfl, (fun _ h => absurd h List.not_mem_nil)⟩)⟩) (Nat.le_of_ble_eq_true rfl) ?_
  intro x rs C
  show eZ x E (eQ x E (fun v Γ => v = none ∧ ∃ qa, Γ = [eLo a qa nu (50, 1, 0, 0, 0), eLL qa 0 []]) rs) [eO a 2 [.int 0, .null, .int 0, .int 0, .int 0, .int 0, .int 0], rs] 0 [some (.ref a), some (.int nu)] [] 0 0
  generalize hQ_ : eQ x E (fun v Γ => v = none ∧ ∃ qa, Γ = [eLo a qa nu (50, 1, 0, 0, 0), eLL qa 0 []]) rs = Q_
  refine z_aload_n C dX2_init_0 rfl rfl ?_
  refine z_objInit C dX2_init_1 rfl rfl q167 q99 q100 (Nat.le_of_ble_eq_true rfl) (Nat.le_of_ble_eq_true rfl) ?_
  refine z_aload_n C dX2_init_4 rfl rfl ?_
  refine z_new (fs := [.int 0, .int 0, .null, .null]) eK13 C dX2_init_5 rfl q168 q142 q55 rfl (Nat.le_of_ble_eq_true rfl) (Nat.le_of_ble_eq_true rfl) (fun o1 => ?_)
  show eZ x E _ [eO a 2 [.int 0, .null, .int 0, .int 0, .int 0, .int 0, .int 0], rs, eO o1 13 [.int 0, .int 0, .null, .null]] 8 [some (.ref a), some (.int nu)] [.ref o1, .ref a] 1 4
  refine z_dup C dX2_init_8 rfl ?_
  refine z_callI (As := []) (rest := [.ref o1, .ref a]) (Δ := [eO a 2 [.int 0, .null, .int 0, .int 0, .int 0, .int 0, .int 0], rs]) [2] [0, 1] 0 (m_LL_init hl E o1) C dX2_init_9 rfl rfl rfl q169 q144 q55 q145 rfl (by decide +kernel) rfl (ePm 3 rfl (by decide +kernel)) rfl rfl ⟨Nat.le_of_ble_eq_true rfl, Nat.le_of_ble_eq_true rfl⟩ (Nat.le_trans (eSm rfl (eSm rfl eS0)) (Nat.le_of_ble_eq_true rfl)) ⟨Nat.le_of_ble_eq_true rfl, Nat.le_of_ble_eq_true rfl⟩ (fun v_ Γ_ hp_ => ?_)
  obtain ⟨rfl, rfl⟩ := hp_
  show eZ x E _ [eLL o1 0 [], eO a 2 [.int 0, .null, .int 0, .int 0, .int 0, .int 0, .int 0], rs] 12 [some (.ref a), some (.int nu)] [.ref o1, .ref a] 1 4
  refine z_putF eK2 1 1 (Γ2 := [eLL o1 0 [], eO a 2 [.int 0, .ref o1, .int 0, .int 0, .int 0, .int 0, .int 0], rs]) C dX2_init_12 rfl rfl q172 (eSame1 rfl) (by decide) rfl rfl rfl rfl rfl rfl (Nat.le_of_ble_eq_true rfl) rfl ?_
  refine z_aload_n C dX2_init_15 rfl rfl ?_
  refine z_bipush (v := 50) C dX2_init_16 (by decide) ?_
  refine z_put eK2 1 2 (Γ2 := [eLL o1 0 [], eO a 2 [.int 0, .ref o1, .int 50, .int 0, .int 0, .int 0, .int 0], rs]) C dX2_init_18 rfl rfl q175 (eSame1 rfl) (by decide) rfl rfl rfl rfl (Nat.le_of_ble_eq_true rfl) rfl ?_
  refine z_aload_n C dX2_init_21 rfl rfl ?_
  refine z_iconst (v := 1) C dX2_init_22 (by decide) ?_
  refine z_put eK2 1 3 (Γ2 := [eLL o1 0 [], eO a 2 [.int 0, .ref o1, .int 50, .int 1, .int 0, .int 0, .int 0], rs]) C dX2_init_23 rfl rfl q178 (eSame1 rfl) (by decide) rfl rfl rfl rfl (Nat.le_of_ble_eq_true rfl) rfl ?_
  refine z_aload_n C dX2_init_26 rfl rfl ?_
  refine z_iload_n C dX2_init_27 rfl rfl ?_
  refine z_putF eK2 1 0 (Γ2 := [eLL o1 0 [], eO a 2 [.int nu, .ref o1, .int 50, .int 1, .int 0, .int 0, .int 0], rs]) C dX2_init_28 rfl rfl q170 (eSame1 rfl) (by decide) rfl rfl rfl rfl rfl rfl (Nat.le_of_ble_eq_true rfl) rfl ?_
  refine z_pick (Γ' := [eO a 2 [.int nu, .ref o1, .int 50, .int 1, .int 0, .int 0, .int 0], eLL o1 0 [], rs]) [1, 0, 2] (ePm 3 rfl (by decide +kernel)) rfl ?_
  subst hQ_
  exact z_vret (Γ := [eO a 2 [.int nu, .ref o1, .int 50, .int 1, .int 0, .int 0, .int 0], eLL o1 0 []]) C dX2_init_31 rfl (Nat.le_of_ble_eq_true rfl) (Nat.le_of_ble_eq_true rfl) ⟨rfl, o1, rfl⟩

set_option maxHeartbeats 4000000 in
theorem m_Lane_init2 {l : Launch} (hl : l.stackTraces = false) (E : eEn) (a b bq : Nat) (nu bm : Int32) (v : Lv) (zs : Qz) (hz : zs.length ≤ 8) : eMet l E yX2_init_2 (ws_ yX2_init_2 cX2_init_2 4 none) ({ frames := 6, cells := 18, slots := 81, locals := 113 }) [.ref a, .ref b] [eO a 2 [.int 0, .null, .int 0, .int 0, .int 0, .int 0, .int 0], eO b 2 [.int nu, .ref bq, .int v.li, .int v.tu, .int v.st, .int v.gd, .int v.ck], eLL bq bm (qX zs), qE zs] (fun w Γ => w = none ∧ ∃ qa m ys, Γ = [eLo a qa nu v, eLL qa m (qX ys), qE ys, eLo b bq nu v, eLL bq bm (qX zs), qE zs] ∧ qG ys = qG zs) := by
  refine eStart (cc := cX2_init_2) (nL := 4) (L := [some (.ref a), some (.ref b), none, none]) hl (by decide) rfl (List.forall_mem_cons.mpr ⟨rfl, (List.forall_mem_cons.mpr ⟨rfl, (fun _ h => absurd h List.not_mem_nil)⟩)⟩) (Nat.le_of_ble_eq_true rfl) ?_
  intro x rs C
  show eZ x E (eQ x E (fun w Γ => w = none ∧ ∃ qa m ys, Γ = [eLo a qa nu v, eLL qa m (qX ys), qE ys, eLo b bq nu v, eLL bq bm (qX zs), qE zs] ∧ qG ys = qG zs) rs) [eO a 2 [.int 0, .null, .int 0, .int 0, .int 0, .int 0, .int 0], eO b 2 [.int nu, .ref bq, .int v.li, .int v.tu, .int v.st, .int v.gd, .int v.ck], eLL bq bm (qX zs), qE zs, rs] 0 [some (.ref a), some (.ref b), none, none] [] 0 0
  generalize hQ_ : eQ x E (fun w Γ => w = none ∧ ∃ qa m ys, Γ = [eLo a qa nu v, eLL qa m (qX ys), qE ys, eLo b bq nu v, eLL bq bm (qX zs), qE zs] ∧ qG ys = qG zs) rs = Q_
  refine z_aload_n C dX2_init_2_0 rfl rfl ?_
  refine z_aload_n C dX2_init_2_1 rfl rfl ?_
  refine z_get eK2 1 0 C dX2_init_2_2 rfl rfl q170 (eSame1 rfl) (by decide) rfl ?_
  refine z_callI (As := [.int nu]) (rest := []) (Δ := [eO b 2 [.int nu, .ref bq, .int v.li, .int v.tu, .int v.st, .int v.gd, .int v.ck], eLL bq bm (qX zs), qE zs, rs]) [0] [1, 2, 3, 4] 1 (m_Lane_init hl E a nu) C dX2_init_2_5 rfl rfl rfl q821 q165 q56 q166 rfl (by decide +kernel) rfl (ePm 5 rfl (by decide +kernel)) rfl rfl ⟨Nat.le_of_ble_eq_true rfl, Nat.le_of_ble_eq_true rfl⟩ (Nat.le_trans eS0 (Nat.le_of_ble_eq_true rfl)) ⟨Nat.le_of_ble_eq_true rfl, Nat.le_of_ble_eq_true rfl⟩ (fun v_ Γ_ hp_ => ?_)
  obtain ⟨rfl, qa, rfl⟩ := hp_
  show eZ x E _ [eO a 2 [.int nu, .ref qa, .int 50, .int 1, .int 0, .int 0, .int 0], eLL qa 0 [], eO b 2 [.int nu, .ref bq, .int v.li, .int v.tu, .int v.st, .int v.gd, .int v.ck], eLL bq bm (qX zs), qE zs, rs] 8 [some (.ref a), some (.ref b), none, none] [] 1 4
  refine z_aload_n C dX2_init_2_8 rfl rfl ?_
  refine z_get eK2 2 1 C dX2_init_2_9 rfl rfl q172 (eSame1 rfl) (by decide) rfl ?_
  have hz2 : (qX zs).length < 1000000 := by rw [List.length_map]; omega
  refine z_callU (r := (RJ4, TJ4, 4)) (As := []) (rest := []) (Δ := [eO a 2 [.int nu, .ref qa, .int 50, .int 1, .int 0, .int 0, .int 0], eLL qa 0 [], eO b 2 [.int nu, .ref bq, .int v.li, .int v.tu, .int v.st, .int v.gd, .int v.ck], qE zs, rs]) [3] [0, 1, 2, 4, 5] 0 (m_Seq_iterator hl E bq bm (qX zs) hz2) C dX2_init_2_12 rfl rfl (eIn (i := 3) rfl eLL_mem) rfl rfl (eCU (owner := "java/util/AbstractSequentialList") q822 q823 q825 q826 q54 q827 rfl (by decide +kernel)) rfl (ePm 6 rfl (by decide +kernel)) rfl rfl ⟨Nat.le_of_ble_eq_true rfl, Nat.le_of_ble_eq_true rfl⟩ (Nat.le_trans eS0 (Nat.le_of_ble_eq_true rfl)) ⟨Nat.le_of_ble_eq_true rfl, Nat.le_of_ble_eq_true rfl⟩ (fun v_ Γ_ hp_ => ?_)
  obtain ⟨it1, rfl, rfl⟩ := hp_
  show eZ x E _ [eO it1 15 [va_rf none, va_rf (eHd (qX zs) none), .int 0, .int bm, .ref bq], eLL bq bm (qX zs), eO a 2 [.int nu, .ref qa, .int 50, .int 1, .int 0, .int 0, .int 0], eLL qa 0 [], eO b 2 [.int nu, .ref bq, .int v.li, .int v.tu, .int v.st, .int v.gd, .int v.ck], qE zs, rs] 15 [some (.ref a), some (.ref b), none, none] [.ref it1] 2 9
  refine z_astore_n (L2 := [some (.ref a), some (.ref b), some (.ref it1), none]) C dX2_init_2_15 rfl (Nat.le_of_ble_eq_true rfl) rfl ?_
  refine z_pick (Γ' := [eO it1 15 [va_rf none, va_rf (eHd (qX zs) none), .int 0, .int bm, .ref bq], eLL bq bm (qX zs), qE zs, eO a 2 [.int nu, .ref qa, .int 50, .int 1, .int 0, .int 0, .int 0], eLL qa 0 [], eO b 2 [.int nu, .ref bq, .int v.li, .int v.tu, .int v.st, .int v.gd, .int v.ck], rs]) [0, 1, 5, 2, 3, 4, 6] (ePm 7 rfl (by decide +kernel)) rfl ?_
  have K : ∀ (vs us ys : Qz) (m : Int32) (lr : Option Nat), us ++ vs = zs → qG ys = qG us → eZ x E Q_ [eO it1 15 [va_rf lr, va_rf (eHd (qX vs) none), .int (nI (qX us).length), .int bm, .ref bq], eLL bq bm (qX us ++ qX vs), qE us, qE vs, eO a 2 [.int nu, .ref qa, .int 50, .int 1, .int 0, .int 0, .int 0], eLL qa m (qX ys), qE ys, eO b 2 [.int nu, .ref bq, .int v.li, .int v.tu, .int v.st, .int v.gd, .int v.ck], rs] 16 [some (.ref a), some (.ref b), some (.ref it1), none] [] (0 + 1 + 1 + 2 * us.length) (0 + 4 + 5 + 9 * us.length) := by
    intro vs
    induction vs with
    | nil =>
        intro us ys m lr hu hg
        have hl1 : us.length + ([] : Qz).length = zs.length := by rw [← hu, List.length_append]
        have hx : (qX us ++ qX ([] : Qz)).length < 1000000 := by rw [List.length_append, List.length_map, List.length_map]; omega
        refine z_aload_n C dX2_init_2_16 rfl rfl ?_
        refine z_callF (r := (RJ23, TJ23, 5)) (As := []) (rest := []) (Δ := [qE us, qE [], eO a 2 [.int nu, .ref qa, .int 50, .int 1, .int 0, .int 0, .int 0], eLL qa m (qX ys), qE ys, eO b 2 [.int nu, .ref bq, .int v.li, .int v.tu, .int v.st, .int v.gd, .int v.ck], rs]) [0, 1] [2, 3, 4, 5, 6, 7, 8] 0 (m_LItr_hasNext hl E it1 bq bm lr (qX us) (qX []) hx) C dX2_init_2_17 rfl rfl (eIn (i := 0) rfl List.mem_cons_self) rfl rfl C.2.2.2.2.2.2.2.1.2.2.2.2.1.2.2.1 q894 q485 q483 q79 q487 (by decide +kernel) rfl (ePm 9 rfl (by decide +kernel)) rfl rfl ⟨Nat.le_of_ble_eq_true rfl, Nat.le_of_ble_eq_true rfl⟩ (Nat.le_trans eS0 (Nat.le_of_ble_eq_true rfl)) ⟨by first | omega | (dsimp only; omega), by first | omega | (dsimp only; omega)⟩ (fun v_ Γ_ hp_ => ?_)
        obtain ⟨rfl, rfl⟩ := hp_
        show eZ x E _ [eO it1 15 [va_rf lr, va_rf (eHd (qX []) none), .int (nI (qX us).length), .int bm, .ref bq], eLL bq bm (qX us ++ qX []), qE us, qE [], eO a 2 [.int nu, .ref qa, .int 50, .int 1, .int 0, .int 0, .int 0], eLL qa m (qX ys), qE ys, eO b 2 [.int nu, .ref bq, .int v.li, .int v.tu, .int v.st, .int v.gd, .int v.ck], rs] 22 [some (.ref a), some (.ref b), some (.ref it1), none] [.int (eB (!(qX []).isEmpty))] (0 + 1 + 1 + 2 * us.length) (0 + 4 + 5 + 9 * us.length)
        refine z_if_eq_B 53 C dX2_init_2_22 (by decide) (fun h1 => ?_) (fun h1 => ?_)
        · refine z_aload_n C dX2_init_2_53 rfl rfl ?_
          refine z_aload_n C dX2_init_2_54 rfl rfl ?_
          refine z_get eK2 7 2 C dX2_init_2_55 rfl rfl q175 (eSame1 rfl) (by decide) rfl ?_
          refine z_put eK2 4 2 (Γ2 := [eO it1 15 [va_rf lr, va_rf (eHd (qX []) none), .int (nI (qX us).length), .int bm, .ref bq], eLL bq bm (qX us ++ qX []), qE us, qE [], eO a 2 [.int nu, .ref qa, .int v.li, .int 1, .int 0, .int 0, .int 0], eLL qa m (qX ys), qE ys, eO b 2 [.int nu, .ref bq, .int v.li, .int v.tu, .int v.st, .int v.gd, .int v.ck], rs]) C dX2_init_2_58 rfl rfl q175 (eSame1 rfl) (by decide) rfl rfl rfl rfl (Nat.le_of_ble_eq_true rfl) rfl ?_
          refine z_aload_n C dX2_init_2_61 rfl rfl ?_
          refine z_aload_n C dX2_init_2_62 rfl rfl ?_
          refine z_get eK2 7 3 C dX2_init_2_63 rfl rfl q178 (eSame1 rfl) (by decide) rfl ?_
          refine z_put eK2 4 3 (Γ2 := [eO it1 15 [va_rf lr, va_rf (eHd (qX []) none), .int (nI (qX us).length), .int bm, .ref bq], eLL bq bm (qX us ++ qX []), qE us, qE [], eO a 2 [.int nu, .ref qa, .int v.li, .int v.tu, .int 0, .int 0, .int 0], eLL qa m (qX ys), qE ys, eO b 2 [.int nu, .ref bq, .int v.li, .int v.tu, .int v.st, .int v.gd, .int v.ck], rs]) C dX2_init_2_66 rfl rfl q178 (eSame1 rfl) (by decide) rfl rfl rfl rfl (Nat.le_of_ble_eq_true rfl) rfl ?_
          refine z_aload_n C dX2_init_2_69 rfl rfl ?_
          refine z_aload_n C dX2_init_2_70 rfl rfl ?_
          refine z_get eK2 7 4 C dX2_init_2_71 rfl rfl q181 (eSame1 rfl) (by decide) rfl ?_
          refine z_put eK2 4 4 (Γ2 := [eO it1 15 [va_rf lr, va_rf (eHd (qX []) none), .int (nI (qX us).length), .int bm, .ref bq], eLL bq bm (qX us ++ qX []), qE us, qE [], eO a 2 [.int nu, .ref qa, .int v.li, .int v.tu, .int v.st, .int 0, .int 0], eLL qa m (qX ys), qE ys, eO b 2 [.int nu, .ref bq, .int v.li, .int v.tu, .int v.st, .int v.gd, .int v.ck], rs]) C dX2_init_2_74 rfl rfl q181 (eSame1 rfl) (by decide) rfl rfl rfl rfl (Nat.le_of_ble_eq_true rfl) rfl ?_
          refine z_aload_n C dX2_init_2_77 rfl rfl ?_
          refine z_aload_n C dX2_init_2_78 rfl rfl ?_
          refine z_get eK2 7 5 C dX2_init_2_79 rfl rfl q184 (eSame1 rfl) (by decide) rfl ?_
          refine z_put eK2 4 5 (Γ2 := [eO it1 15 [va_rf lr, va_rf (eHd (qX []) none), .int (nI (qX us).length), .int bm, .ref bq], eLL bq bm (qX us ++ qX []), qE us, qE [], eO a 2 [.int nu, .ref qa, .int v.li, .int v.tu, .int v.st, .int v.gd, .int 0], eLL qa m (qX ys), qE ys, eO b 2 [.int nu, .ref bq, .int v.li, .int v.tu, .int v.st, .int v.gd, .int v.ck], rs]) C dX2_init_2_82 rfl rfl q184 (eSame1 rfl) (by decide) rfl rfl rfl rfl (Nat.le_of_ble_eq_true rfl) rfl ?_
          refine z_aload_n C dX2_init_2_85 rfl rfl ?_
          refine z_aload_n C dX2_init_2_86 rfl rfl ?_
          refine z_get eK2 7 6 C dX2_init_2_87 rfl rfl q187 (eSame1 rfl) (by decide) rfl ?_
          refine z_put eK2 4 6 (Γ2 := [eO it1 15 [va_rf lr, va_rf (eHd (qX []) none), .int (nI (qX us).length), .int bm, .ref bq], eLL bq bm (qX us ++ qX []), qE us, qE [], eO a 2 [.int nu, .ref qa, .int v.li, .int v.tu, .int v.st, .int v.gd, .int v.ck], eLL qa m (qX ys), qE ys, eO b 2 [.int nu, .ref bq, .int v.li, .int v.tu, .int v.st, .int v.gd, .int v.ck], rs]) C dX2_init_2_90 rfl rfl q187 (eSame1 rfl) (by decide) rfl rfl rfl rfl (Nat.le_of_ble_eq_true rfl) rfl ?_
          rw [List.append_nil] at hu
          subst hu
          refine z_pick (Γ' := [qE us, eO it1 15 [va_rf lr, va_rf (eHd (qX []) none), .int (nI (qX us).length), .int bm, .ref bq], eLL bq bm (qX us ++ qX []), qE [], eO a 2 [.int nu, .ref qa, .int v.li, .int v.tu, .int v.st, .int v.gd, .int v.ck], eLL qa m (qX ys), qE ys, eO b 2 [.int nu, .ref bq, .int v.li, .int v.tu, .int v.st, .int v.gd, .int v.ck], rs]) [2, 0, 1, 3, 4, 5, 6, 7, 8] (ePm 9 rfl (by decide +kernel)) rfl ?_
          refine z_wide (k' := 18) (n' := 81) (by omega) (by omega) ?_
          refine z_go (Γ' := [qE us, eO it1 15 [va_rf lr, va_rf (eHd (qX []) none), .int (nI (qX us).length), .int bm, .ref bq], eLL bq bm (qX us), qE [], eO a 2 [.int nu, .ref qa, .int v.li, .int v.tu, .int v.st, .int v.gd, .int v.ck], eLL qa m (qX ys), qE ys, eO b 2 [.int nu, .ref bq, .int v.li, .int v.tu, .int v.st, .int v.gd, .int v.ck], rs]) (by rw [show qX us ++ qX [] = qX us from List.append_nil _]) ?_
          show eZ x E _ [qE us, eO it1 15 [va_rf lr, va_rf (eHd (qX []) none), .int (nI (qX us).length), .int bm, .ref bq], eLL bq bm (qX us), qE [], eO a 2 [.int nu, .ref qa, .int v.li, .int v.tu, .int v.st, .int v.gd, .int v.ck], eLL qa m (qX ys), qE ys, eO b 2 [.int nu, .ref bq, .int v.li, .int v.tu, .int v.st, .int v.gd, .int v.ck], rs] 93 [some (.ref a), some (.ref b), some (.ref it1), none] [] 18 81
          refine z_pick (Γ' := [eO it1 15 [va_rf lr, va_rf (eHd (qX []) none), .int (nI (qX us).length), .int bm, .ref bq], qE [], eO a 2 [.int nu, .ref qa, .int v.li, .int v.tu, .int v.st, .int v.gd, .int v.ck], eLL qa m (qX ys), qE ys, eO b 2 [.int nu, .ref bq, .int v.li, .int v.tu, .int v.st, .int v.gd, .int v.ck], eLL bq bm (qX us), qE us, rs]) [1, 3, 4, 5, 6, 7, 2, 0, 8] (ePm 9 rfl (by decide +kernel)) rfl ?_
          refine z_drop ?_
          refine z_drop ?_
          show eZ x E _ [eO a 2 [.int nu, .ref qa, .int v.li, .int v.tu, .int v.st, .int v.gd, .int v.ck], eLL qa m (qX ys), qE ys, eO b 2 [.int nu, .ref bq, .int v.li, .int v.tu, .int v.st, .int v.gd, .int v.ck], eLL bq bm (qX us), qE us, rs] 93 [some (.ref a), some (.ref b), some (.ref it1), none] [] 18 81
          subst hQ_
          exact z_vret (Γ := [eO a 2 [.int nu, .ref qa, .int v.li, .int v.tu, .int v.st, .int v.gd, .int v.ck], eLL qa m (qX ys), qE ys, eO b 2 [.int nu, .ref bq, .int v.li, .int v.tu, .int v.st, .int v.gd, .int v.ck], eLL bq bm (qX us), qE us]) C dX2_init_2_93 rfl (Nat.le_refl _) (Nat.le_refl _) ⟨rfl, qa, m, ys, rfl, hg⟩
        · cases h1
    | cons z0 vs ih =>
        intro us ys m lr hu hg
        have hl1 : us.length + (z0 :: vs).length = zs.length := by rw [← hu, List.length_append]
        have hx : (qX us ++ qX (z0 :: vs)).length < 1000000 := by rw [List.length_append, List.length_map, List.length_map]; omega
        obtain ⟨⟨n0, j0⟩, g⟩ := z0
        rw [List.length_cons] at hl1
        refine z_aload_n C dX2_init_2_16 rfl rfl ?_
        refine z_callF (r := (RJ23, TJ23, 5)) (As := []) (rest := []) (Δ := [qE us, qE (((n0, j0), g) :: vs), eO a 2 [.int nu, .ref qa, .int 50, .int 1, .int 0, .int 0, .int 0], eLL qa m (qX ys), qE ys, eO b 2 [.int nu, .ref bq, .int v.li, .int v.tu, .int v.st, .int v.gd, .int v.ck], rs]) [0, 1] [2, 3, 4, 5, 6, 7, 8] 0 (m_LItr_hasNext hl E it1 bq bm lr (qX us) (qX (((n0, j0), g) :: vs)) hx) C dX2_init_2_17 rfl rfl (eIn (i := 0) rfl List.mem_cons_self) rfl rfl C.2.2.2.2.2.2.2.1.2.2.2.2.1.2.2.1 q894 q485 q483 q79 q487 (by decide +kernel) rfl (ePm 9 rfl (by decide +kernel)) rfl rfl ⟨Nat.le_of_ble_eq_true rfl, Nat.le_of_ble_eq_true rfl⟩ (Nat.le_trans eS0 (Nat.le_of_ble_eq_true rfl)) ⟨by first | omega | (dsimp only; omega), by first | omega | (dsimp only; omega)⟩ (fun v_ Γ_ hp_ => ?_)
        obtain ⟨rfl, rfl⟩ := hp_
        show eZ x E _ [eO it1 15 [va_rf lr, va_rf (eHd (qX (((n0, j0), g) :: vs)) none), .int (nI (qX us).length), .int bm, .ref bq], eLL bq bm (qX us ++ qX (((n0, j0), g) :: vs)), qE us, qE (((n0, j0), g) :: vs), eO a 2 [.int nu, .ref qa, .int 50, .int 1, .int 0, .int 0, .int 0], eLL qa m (qX ys), qE ys, eO b 2 [.int nu, .ref bq, .int v.li, .int v.tu, .int v.st, .int v.gd, .int v.ck], rs] 22 [some (.ref a), some (.ref b), some (.ref it1), none] [.int (eB (!(qX (((n0, j0), g) :: vs)).isEmpty))] (0 + 1 + 1 + 2 * us.length) (0 + 4 + 5 + 9 * us.length)
        refine z_if_eq_B 53 C dX2_init_2_22 (by decide) (fun h1 => ?_) (fun h1 => ?_)
        · cases h1
        · show eZ x E _ [eO it1 15 [va_rf lr, va_rf (some n0), .int (nI (qX us).length), .int bm, .ref bq], eLL bq bm (qX us ++ (n0, j0) :: qX vs), qE us, qE (((n0, j0), g) :: vs), eO a 2 [.int nu, .ref qa, .int 50, .int 1, .int 0, .int 0, .int 0], eLL qa m (qX ys), qE ys, eO b 2 [.int nu, .ref bq, .int v.li, .int v.tu, .int v.st, .int v.gd, .int v.ck], rs] 25 [some (.ref a), some (.ref b), some (.ref it1), none] [] (0 + 1 + 1 + 2 * us.length) (0 + 4 + 5 + 9 * us.length)
          refine z_aload_n C dX2_init_2_25 rfl rfl ?_
          refine z_callF (r := (RJ23, TJ23, 5)) (As := []) (rest := []) (Δ := [qE us, qE (((n0, j0), g) :: vs), eO a 2 [.int nu, .ref qa, .int 50, .int 1, .int 0, .int 0, .int 0], eLL qa m (qX ys), qE ys, eO b 2 [.int nu, .ref bq, .int v.li, .int v.tu, .int v.st, .int v.gd, .int v.ck], rs]) [0, 1] [2, 3, 4, 5, 6, 7, 8] 0 (m_LItr_next hl E it1 bq n0 j0 bm lr (qX us) (qX vs) hx) C dX2_init_2_26 rfl rfl (eIn (i := 0) rfl List.mem_cons_self) rfl rfl C.2.2.2.2.2.2.2.1.2.2.2.2.1.2.2.2 q896 q810 q808 q79 q812 (by decide +kernel) rfl (ePm 9 rfl (by decide +kernel)) rfl rfl ⟨Nat.le_of_ble_eq_true rfl, Nat.le_of_ble_eq_true rfl⟩ (Nat.le_trans eS0 (Nat.le_of_ble_eq_true rfl)) ⟨by first | omega | (dsimp only; omega), by first | omega | (dsimp only; omega)⟩ (fun v_ Γ_ hp_ => ?_)
          obtain ⟨rfl, rfl⟩ := hp_
          show eZ x E _ [eO it1 15 [va_rf (some n0), va_rf (eHd (qX vs) none), .int (nI ((qX us).length + 1)), .int bm, .ref bq], eLL bq bm (qX us ++ (n0, j0) :: qX vs), qE us, qE (((n0, j0), g) :: vs), eO a 2 [.int nu, .ref qa, .int 50, .int 1, .int 0, .int 0, .int 0], eLL qa m (qX ys), qE ys, eO b 2 [.int nu, .ref bq, .int v.li, .int v.tu, .int v.st, .int v.gd, .int v.ck], rs] 31 [some (.ref a), some (.ref b), some (.ref it1), none] [.ref j0] (0 + 1 + 1 + 2 * us.length) (0 + 4 + 5 + 9 * us.length)
          refine z_cut 3 (bs := [eO j0 5 [.int g.w, .int g.sh, .int g.y, .int g.c, .int g.sp, .int g.t], qE vs]) rfl (by simp [qE_cons]) rfl ?_
          show eZ x E _ [eO it1 15 [va_rf (some n0), va_rf (eHd (qX vs) none), .int (nI ((qX us).length + 1)), .int bm, .ref bq], eLL bq bm (qX us ++ (n0, j0) :: qX vs), qE us, eO j0 5 [.int g.w, .int g.sh, .int g.y, .int g.c, .int g.sp, .int g.t], qE vs, eO a 2 [.int nu, .ref qa, .int 50, .int 1, .int 0, .int 0, .int 0], eLL qa m (qX ys), qE ys, eO b 2 [.int nu, .ref bq, .int v.li, .int v.tu, .int v.st, .int v.gd, .int v.ck], rs] 31 [some (.ref a), some (.ref b), some (.ref it1), none] [.ref j0] (0 + 1 + 1 + 2 * us.length) (0 + 4 + 5 + 9 * us.length)
          refine z_castE C dX2_init_2_31 (eIn (i := 3) rfl List.mem_cons_self) (show eCl[5]? = some _ from rfl) rfl q897 ?_
          refine z_astore_n (L2 := [some (.ref a), some (.ref b), some (.ref it1), some (.ref j0)]) C dX2_init_2_34 rfl (Nat.le_of_ble_eq_true rfl) rfl ?_
          refine z_aload_n C dX2_init_2_35 rfl rfl ?_
          refine z_get eK2 5 1 C dX2_init_2_36 rfl rfl q172 (eSame1 rfl) (by decide) rfl ?_
          refine z_new (fs := [.int 0, .int 0, .int 0, .int 0, .int 0, .int 0]) eK5 C dX2_init_2_39 rfl q897 q898 q80 rfl (by first | omega | (dsimp only; omega)) (by first | omega | (dsimp only; omega)) (fun o2 => ?_)
          show eZ x E _ [eO it1 15 [va_rf (some n0), va_rf (eHd (qX vs) none), .int (nI ((qX us).length + 1)), .int bm, .ref bq], eLL bq bm (qX us ++ (n0, j0) :: qX vs), qE us, eO j0 5 [.int g.w, .int g.sh, .int g.y, .int g.c, .int g.sp, .int g.t], qE vs, eO a 2 [.int nu, .ref qa, .int 50, .int 1, .int 0, .int 0, .int 0], eLL qa m (qX ys), qE ys, eO b 2 [.int nu, .ref bq, .int v.li, .int v.tu, .int v.st, .int v.gd, .int v.ck], rs, eO o2 5 [.int 0, .int 0, .int 0, .int 0, .int 0, .int 0]] 42 [some (.ref a), some (.ref b), some (.ref it1), some (.ref j0)] [.ref o2, .ref qa] ((0 + 1 + 1 + 2 * us.length) + 1) ((0 + 4 + 5 + 9 * us.length) + 6)
          refine z_dup C dX2_init_2_42 rfl ?_
          refine z_aload_n C dX2_init_2_43 rfl rfl ?_
          refine z_callI (As := [.ref j0]) (rest := [.ref o2, .ref qa]) (Δ := [eO it1 15 [va_rf (some n0), va_rf (eHd (qX vs) none), .int (nI ((qX us).length + 1)), .int bm, .ref bq], eLL bq bm (qX us ++ (n0, j0) :: qX vs), qE us, qE vs, eO a 2 [.int nu, .ref qa, .int 50, .int 1, .int 0, .int 0, .int 0], eLL qa m (qX ys), qE ys, eO b 2 [.int nu, .ref bq, .int v.li, .int v.tu, .int v.st, .int v.gd, .int v.ck], rs]) [10, 3] [0, 1, 2, 4, 5, 6, 7, 8, 9] 1 (m_Egg_init hl E o2 j0 g) C dX2_init_2_44 rfl rfl rfl q899 q900 q80 q901 rfl (by decide +kernel) rfl (ePm 11 rfl (by decide +kernel)) rfl rfl ⟨Nat.le_of_ble_eq_true rfl, Nat.le_of_ble_eq_true rfl⟩ (Nat.le_trans (eSm rfl (eSm rfl eS0)) (Nat.le_of_ble_eq_true rfl)) ⟨by first | omega | (dsimp only; omega), by first | omega | (dsimp only; omega)⟩ (fun v_ Γ_ hp_ => ?_)
          obtain ⟨rfl, rfl⟩ := hp_
          show eZ x E _ [eO o2 5 [.int g.w, .int g.sh, .int g.y, .int g.c, .int g.sp, .int g.t], eO j0 5 [.int g.w, .int g.sh, .int g.y, .int g.c, .int g.sp, .int g.t], eO it1 15 [va_rf (some n0), va_rf (eHd (qX vs) none), .int (nI ((qX us).length + 1)), .int bm, .ref bq], eLL bq bm (qX us ++ (n0, j0) :: qX vs), qE us, qE vs, eO a 2 [.int nu, .ref qa, .int 50, .int 1, .int 0, .int 0, .int 0], eLL qa m (qX ys), qE ys, eO b 2 [.int nu, .ref bq, .int v.li, .int v.tu, .int v.st, .int v.gd, .int v.ck], rs] 47 [some (.ref a), some (.ref b), some (.ref it1), some (.ref j0)] [.ref o2, .ref qa] ((0 + 1 + 1 + 2 * us.length) + 1) ((0 + 4 + 5 + 9 * us.length) + 6)
          refine z_callV (r := (RJ4, TJ4, 4)) (As := [.ref o2]) (rest := []) (Δ := [eO o2 5 [.int g.w, .int g.sh, .int g.y, .int g.c, .int g.sp, .int g.t], eO j0 5 [.int g.w, .int g.sh, .int g.y, .int g.c, .int g.sp, .int g.t], eO it1 15 [va_rf (some n0), va_rf (eHd (qX vs) none), .int (nI ((qX us).length + 1)), .int bm, .ref bq], eLL bq bm (qX us ++ (n0, j0) :: qX vs), qE us, qE vs, eO a 2 [.int nu, .ref qa, .int 50, .int 1, .int 0, .int 0, .int 0], qE ys, eO b 2 [.int nu, .ref bq, .int v.li, .int v.tu, .int v.st, .int v.gd, .int v.ck], rs]) [7] [0, 1, 2, 3, 4, 5, 6, 8, 9, 10] 1 (m_LL_addLast hl E qa o2 m (qX ys)) C dX2_init_2_47 rfl rfl (eIn (i := 7) rfl eLL_mem) rfl rfl q938 q939 q940 q55 q941 (by decide +kernel) rfl (ePm 11 rfl (by decide +kernel)) rfl rfl ⟨Nat.le_of_ble_eq_true rfl, Nat.le_of_ble_eq_true rfl⟩ (Nat.le_trans eS0 (Nat.le_of_ble_eq_true rfl)) ⟨by first | omega | (dsimp only; omega), by first | omega | (dsimp only; omega)⟩ (fun v_ Γ_ hp_ => ?_)
          obtain ⟨rfl, n1, rfl⟩ := hp_
          show eZ x E _ [eLL qa (m + 1) (qX ys ++ [(n1, o2)]), eO o2 5 [.int g.w, .int g.sh, .int g.y, .int g.c, .int g.sp, .int g.t], eO j0 5 [.int g.w, .int g.sh, .int g.y, .int g.c, .int g.sp, .int g.t], eO it1 15 [va_rf (some n0), va_rf (eHd (qX vs) none), .int (nI ((qX us).length + 1)), .int bm, .ref bq], eLL bq bm (qX us ++ (n0, j0) :: qX vs), qE us, qE vs, eO a 2 [.int nu, .ref qa, .int 50, .int 1, .int 0, .int 0, .int 0], qE ys, eO b 2 [.int nu, .ref bq, .int v.li, .int v.tu, .int v.st, .int v.gd, .int v.ck], rs] 50 [some (.ref a), some (.ref b), some (.ref it1), some (.ref j0)] [] (((0 + 1 + 1 + 2 * us.length) + 1) + 1) (((0 + 4 + 5 + 9 * us.length) + 6) + 3)
          refine z_goto 16 C dX2_init_2_50 (by decide) ?_
          refine z_pick (Γ' := [qE us, eO j0 5 [.int g.w, .int g.sh, .int g.y, .int g.c, .int g.sp, .int g.t], eLL qa (m + 1) (qX ys ++ [(n1, o2)]), eO o2 5 [.int g.w, .int g.sh, .int g.y, .int g.c, .int g.sp, .int g.t], eO it1 15 [va_rf (some n0), va_rf (eHd (qX vs) none), .int (nI ((qX us).length + 1)), .int bm, .ref bq], eLL bq bm (qX us ++ (n0, j0) :: qX vs), qE vs, eO a 2 [.int nu, .ref qa, .int 50, .int 1, .int 0, .int 0, .int 0], qE ys, eO b 2 [.int nu, .ref bq, .int v.li, .int v.tu, .int v.st, .int v.gd, .int v.ck], rs]) [5, 2, 0, 1, 3, 4, 6, 7, 8, 9, 10] (ePm 11 rfl (by decide +kernel)) rfl ?_
          refine z_join 2 (b := qE (us ++ [((n0, j0), g)])) (by simp [qE_app, qE_cons, qE_nil]) rfl ?_
          show eZ x E _ [qE (us ++ [((n0, j0), g)]), eLL qa (m + 1) (qX ys ++ [(n1, o2)]), eO o2 5 [.int g.w, .int g.sh, .int g.y, .int g.c, .int g.sp, .int g.t], eO it1 15 [va_rf (some n0), va_rf (eHd (qX vs) none), .int (nI ((qX us).length + 1)), .int bm, .ref bq], eLL bq bm (qX us ++ (n0, j0) :: qX vs), qE vs, eO a 2 [.int nu, .ref qa, .int 50, .int 1, .int 0, .int 0, .int 0], qE ys, eO b 2 [.int nu, .ref bq, .int v.li, .int v.tu, .int v.st, .int v.gd, .int v.ck], rs] 16 [some (.ref a), some (.ref b), some (.ref it1), some (.ref j0)] [] (((0 + 1 + 1 + 2 * us.length) + 1) + 1) (((0 + 4 + 5 + 9 * us.length) + 6) + 3)
          refine z_pick (Γ' := [qE ys, eO o2 5 [.int g.w, .int g.sh, .int g.y, .int g.c, .int g.sp, .int g.t], qE (us ++ [((n0, j0), g)]), eLL qa (m + 1) (qX ys ++ [(n1, o2)]), eO it1 15 [va_rf (some n0), va_rf (eHd (qX vs) none), .int (nI ((qX us).length + 1)), .int bm, .ref bq], eLL bq bm (qX us ++ (n0, j0) :: qX vs), qE vs, eO a 2 [.int nu, .ref qa, .int 50, .int 1, .int 0, .int 0, .int 0], eO b 2 [.int nu, .ref bq, .int v.li, .int v.tu, .int v.st, .int v.gd, .int v.ck], rs]) [7, 2, 0, 1, 3, 4, 5, 6, 8, 9] (ePm 10 rfl (by decide +kernel)) rfl ?_
          refine z_join 2 (b := qE (ys ++ [((n1, o2), g)])) (by simp [qE_app, qE_cons, qE_nil]) rfl ?_
          show eZ x E _ [qE (ys ++ [((n1, o2), g)]), qE (us ++ [((n0, j0), g)]), eLL qa (m + 1) (qX ys ++ [(n1, o2)]), eO it1 15 [va_rf (some n0), va_rf (eHd (qX vs) none), .int (nI ((qX us).length + 1)), .int bm, .ref bq], eLL bq bm (qX us ++ (n0, j0) :: qX vs), qE vs, eO a 2 [.int nu, .ref qa, .int 50, .int 1, .int 0, .int 0, .int 0], eO b 2 [.int nu, .ref bq, .int v.li, .int v.tu, .int v.st, .int v.gd, .int v.ck], rs] 16 [some (.ref a), some (.ref b), some (.ref it1), some (.ref j0)] [] (((0 + 1 + 1 + 2 * us.length) + 1) + 1) (((0 + 4 + 5 + 9 * us.length) + 6) + 3)
          refine z_pick (Γ' := [eO it1 15 [va_rf (some n0), va_rf (eHd (qX vs) none), .int (nI ((qX us).length + 1)), .int bm, .ref bq], eLL bq bm (qX us ++ (n0, j0) :: qX vs), qE (us ++ [((n0, j0), g)]), qE vs, eO a 2 [.int nu, .ref qa, .int 50, .int 1, .int 0, .int 0, .int 0], eLL qa (m + 1) (qX ys ++ [(n1, o2)]), qE (ys ++ [((n1, o2), g)]), eO b 2 [.int nu, .ref bq, .int v.li, .int v.tu, .int v.st, .int v.gd, .int v.ck], rs]) [3, 4, 1, 5, 6, 2, 0, 7, 8] (ePm 9 rfl (by decide +kernel)) rfl ?_
          refine z_go (Γ' := [eO it1 15 [va_rf (some n0), va_rf (eHd (qX vs) none), .int (nI (qX (us ++ [((n0, j0), g)])).length), .int bm, .ref bq], eLL bq bm (qX (us ++ [((n0, j0), g)]) ++ qX vs), qE (us ++ [((n0, j0), g)]), qE vs, eO a 2 [.int nu, .ref qa, .int 50, .int 1, .int 0, .int 0, .int 0], eLL qa (m + 1) (qX (ys ++ [((n1, o2), g)])), qE (ys ++ [((n1, o2), g)]), eO b 2 [.int nu, .ref bq, .int v.li, .int v.tu, .int v.st, .int v.gd, .int v.ck], rs]) (by simp) ?_
          refine z_wide (k' := 0 + 1 + 1 + 2 * (us ++ [((n0, j0), g)]).length) (n' := 0 + 4 + 5 + 9 * (us ++ [((n0, j0), g)]).length) (by rw [List.length_append]; simp only [List.length_cons, List.length_nil]; omega) (by rw [List.length_append]; simp only [List.length_cons, List.length_nil]; omega) ?_
          refine z_forget (L' := [some (.ref a), some (.ref b), some (.ref it1), none]) ⟨Or.inr rfl, Or.inr rfl, Or.inr rfl, Or.inl rfl, trivial⟩ ?_
          exact ih (us ++ [((n0, j0), g)]) (ys ++ [((n1, o2), g)]) (m + 1) (some n0) (by rw [← hu, List.append_assoc]; rfl) (by simp only [qG, List.map_append] at hg ⊢; rw [hg]; rfl)
  exact z_eq (Γ' := [eO it1 15 [va_rf none, va_rf (eHd (qX zs) none), .int (nI (qX []).length), .int bm, .ref bq], eLL bq bm (qX [] ++ qX zs), qE [], qE zs, eO a 2 [.int nu, .ref qa, .int 50, .int 1, .int 0, .int 0, .int 0], eLL qa 0 (qX []), qE [], eO b 2 [.int nu, .ref bq, .int v.li, .int v.tu, .int v.st, .int v.gd, .int v.ck], rs]) (by simp [qE_nil, show nI 0 = 0 from rfl]) (K zs [] [] 0 none rfl rfl)

set_option maxHeartbeats 4000000 in
theorem m_Lane_alone {l : Launch} (hl : l.stackTraces = false) (E : eEn) (b bq : Nat) (nu bm : Int32) (v : Lv) (zs : Qz) (hz : zs.length ≤ 8) : eMet l E yX2_alone (ws_ yX2_alone cX2_alone 2 (some (.object "EggLights$Lane"))) ({ frames := 6, cells := 4, slots := 20, locals := 113 }) [.ref b] [eO b 2 [.int nu, .ref bq, .int v.li, .int v.tu, .int v.st, .int v.gd, .int v.ck], eLL bq bm (qX zs), qE zs] (fun w Γ => ∃ a qa m ys, w = some (.ref a) ∧ Γ = [eLo a qa nu (v.li, v.tu, v.st, 0, 0), eLL qa m (qX ys), qE ys, eLo b bq nu v, eLL bq bm (qX zs), qE zs] ∧ qG ys = (qG zs).take 1) := by
  refine eStart (cc := cX2_alone) (nL := 2) (L := [some (.ref b), none]) hl (by decide) rfl (List.forall_mem_cons.mpr ⟨rfl, (fun _ h => absurd h List.not_mem_nil)⟩) (Nat.le_of_ble_eq_true rfl) ?_
  intro x rs C
  show eZ x E (eQ x E (fun w Γ => ∃ a qa m ys, w = some (.ref a) ∧ Γ = [eLo a qa nu (v.li, v.tu, v.st, 0, 0), eLL qa m (qX ys), qE ys, eLo b bq nu v, eLL bq bm (qX zs), qE zs] ∧ qG ys = (qG zs).take 1) rs) [eO b 2 [.int nu, .ref bq, .int v.li, .int v.tu, .int v.st, .int v.gd, .int v.ck], eLL bq bm (qX zs), qE zs, rs] 0 [some (.ref b), none] [] 0 0
  generalize hQ_ : eQ x E (fun w Γ => ∃ a qa m ys, w = some (.ref a) ∧ Γ = [eLo a qa nu (v.li, v.tu, v.st, 0, 0), eLL qa m (qX ys), qE ys, eLo b bq nu v, eLL bq bm (qX zs), qE zs] ∧ qG ys = (qG zs).take 1) rs = Q_
  refine z_new (fs := [.int 0, .null, .int 0, .int 0, .int 0, .int 0, .int 0]) eK2 C dX2_alone_0 rfl q1381 q163 q56 rfl (Nat.le_of_ble_eq_true rfl) (Nat.le_of_ble_eq_true rfl) (fun o1 => ?_)
  show eZ x E _ [eO b 2 [.int nu, .ref bq, .int v.li, .int v.tu, .int v.st, .int v.gd, .int v.ck], eLL bq bm (qX zs), qE zs, rs, eO o1 2 [.int 0, .null, .int 0, .int 0, .int 0, .int 0, .int 0]] 3 [some (.ref b), none] [.ref o1] 1 7
  refine z_dup C dX2_alone_3 rfl ?_
  refine z_aload_n C dX2_alone_4 rfl rfl ?_
  refine z_get eK2 0 0 C dX2_alone_5 rfl rfl q170 (eSame1 rfl) (by decide) rfl ?_
  refine z_callI (As := [.int nu]) (rest := [.ref o1]) (Δ := [eO b 2 [.int nu, .ref bq, .int v.li, .int v.tu, .int v.st, .int v.gd, .int v.ck], eLL bq bm (qX zs), qE zs, rs]) [4] [0, 1, 2, 3] 1 (m_Lane_init hl E o1 nu) C dX2_alone_8 rfl rfl rfl q821 q165 q56 q166 rfl (by decide +kernel) rfl (ePm 5 rfl (by decide +kernel)) rfl rfl ⟨Nat.le_of_ble_eq_true rfl, Nat.le_of_ble_eq_true rfl⟩ (Nat.le_trans (eSm rfl eS0) (Nat.le_of_ble_eq_true rfl)) ⟨Nat.le_of_ble_eq_true rfl, Nat.le_of_ble_eq_true rfl⟩ (fun v_ Γ_ hp_ => ?_)
  obtain ⟨rfl, qa, rfl⟩ := hp_
  show eZ x E _ [eO o1 2 [.int nu, .ref qa, .int 50, .int 1, .int 0, .int 0, .int 0], eLL qa 0 [], eO b 2 [.int nu, .ref bq, .int v.li, .int v.tu, .int v.st, .int v.gd, .int v.ck], eLL bq bm (qX zs), qE zs, rs] 11 [some (.ref b), none] [.ref o1] 2 11
  have hz2 : (qX zs).length < 1000000 := by rw [List.length_map]; omega
  refine z_astore_n (L2 := [some (.ref b), some (.ref o1)]) C dX2_alone_11 rfl (Nat.le_of_ble_eq_true rfl) rfl ?_
  refine z_aload_n C dX2_alone_12 rfl rfl ?_
  refine z_get eK2 2 1 C dX2_alone_13 rfl rfl q172 (eSame1 rfl) (by decide) rfl ?_
  refine z_callU (r := (RJ4, TJ4, 4)) (As := []) (rest := []) (Δ := [eO o1 2 [.int nu, .ref qa, .int 50, .int 1, .int 0, .int 0, .int 0], eLL qa 0 [], eO b 2 [.int nu, .ref bq, .int v.li, .int v.tu, .int v.st, .int v.gd, .int v.ck], qE zs, rs]) [3] [0, 1, 2, 4, 5] 0 (m_LL_isEmpty hl E bq bm (qX zs) hz2) C dX2_alone_16 rfl rfl (eIn (i := 3) rfl eLL_mem) rfl rfl (eCU (owner := "java/util/AbstractCollection") q1382 q1037 q1039 q1040 q51 q1041 rfl (by decide +kernel)) rfl (ePm 6 rfl (by decide +kernel)) rfl rfl ⟨Nat.le_of_ble_eq_true rfl, Nat.le_of_ble_eq_true rfl⟩ (Nat.le_trans eS0 (Nat.le_of_ble_eq_true rfl)) ⟨Nat.le_of_ble_eq_true rfl, Nat.le_of_ble_eq_true rfl⟩ (fun v_ Γ_ hp_ => ?_)
  obtain ⟨rfl, rfl⟩ := hp_
  show eZ x E _ [eLL bq bm (qX zs), eO o1 2 [.int nu, .ref qa, .int 50, .int 1, .int 0, .int 0, .int 0], eLL qa 0 [], eO b 2 [.int nu, .ref bq, .int v.li, .int v.tu, .int v.st, .int v.gd, .int v.ck], qE zs, rs] 19 [some (.ref b), some (.ref o1)] [.int (eB (qX zs).isEmpty)] 2 11
  refine z_if_ne_B 46 C dX2_alone_19 (by decide) (fun h1 => ?_) (fun h1 => ?_)
  · rcases zs with _ | ⟨z0, zs⟩
    case cons => cases h1
    show eZ x E _ [eLL bq bm (qX []), eO o1 2 [.int nu, .ref qa, .int 50, .int 1, .int 0, .int 0, .int 0], eLL qa 0 [], eO b 2 [.int nu, .ref bq, .int v.li, .int v.tu, .int v.st, .int v.gd, .int v.ck], qE [], rs] 46 [some (.ref b), some (.ref o1)] [] 2 11
    refine z_eq (Γ' := [eLL bq bm (qX []), eO o1 2 [.int nu, .ref qa, .int 50, .int 1, .int 0, .int 0, .int 0], eLL qa 0 [], eO b 2 [.int nu, .ref bq, .int v.li, .int v.tu, .int v.st, .int v.gd, .int v.ck], qE [], rs, qE []]) (by simp [qE_nil]) ?_
    refine z_aload_n C dX2_alone_46 rfl rfl ?_
    refine z_aload_n C dX2_alone_47 rfl rfl ?_
    refine z_get eK2 3 2 C dX2_alone_48 rfl rfl q175 (eSame1 rfl) (by decide) rfl ?_
    refine z_put eK2 1 2 (Γ2 := [eLL bq bm (qX []), eO o1 2 [.int nu, .ref qa, .int v.li, .int 1, .int 0, .int 0, .int 0], eLL qa 0 [], eO b 2 [.int nu, .ref bq, .int v.li, .int v.tu, .int v.st, .int v.gd, .int v.ck], qE [], rs, qE []]) C dX2_alone_51 rfl rfl q175 (eSame1 rfl) (by decide) rfl rfl rfl rfl (Nat.le_of_ble_eq_true rfl) rfl ?_
    refine z_aload_n C dX2_alone_54 rfl rfl ?_
    refine z_aload_n C dX2_alone_55 rfl rfl ?_
    refine z_get eK2 3 3 C dX2_alone_56 rfl rfl q178 (eSame1 rfl) (by decide) rfl ?_
    refine z_put eK2 1 3 (Γ2 := [eLL bq bm (qX []), eO o1 2 [.int nu, .ref qa, .int v.li, .int v.tu, .int 0, .int 0, .int 0], eLL qa 0 [], eO b 2 [.int nu, .ref bq, .int v.li, .int v.tu, .int v.st, .int v.gd, .int v.ck], qE [], rs, qE []]) C dX2_alone_59 rfl rfl q178 (eSame1 rfl) (by decide) rfl rfl rfl rfl (Nat.le_of_ble_eq_true rfl) rfl ?_
    refine z_aload_n C dX2_alone_62 rfl rfl ?_
    refine z_aload_n C dX2_alone_63 rfl rfl ?_
    refine z_get eK2 3 4 C dX2_alone_64 rfl rfl q181 (eSame1 rfl) (by decide) rfl ?_
    refine z_put eK2 1 4 (Γ2 := [eLL bq bm (qX []), eO o1 2 [.int nu, .ref qa, .int v.li, .int v.tu, .int v.st, .int 0, .int 0], eLL qa 0 [], eO b 2 [.int nu, .ref bq, .int v.li, .int v.tu, .int v.st, .int v.gd, .int v.ck], qE [], rs, qE []]) C dX2_alone_67 rfl rfl q181 (eSame1 rfl) (by decide) rfl rfl rfl rfl (Nat.le_of_ble_eq_true rfl) rfl ?_
    refine z_aload_n C dX2_alone_70 rfl rfl ?_
    refine z_pick (Γ' := [eO o1 2 [.int nu, .ref qa, .int v.li, .int v.tu, .int v.st, .int 0, .int 0], eLL qa 0 [], eLL bq bm (qX []), eO b 2 [.int nu, .ref bq, .int v.li, .int v.tu, .int v.st, .int v.gd, .int v.ck], qE [], rs, qE []]) [1, 2, 0, 3, 4, 5, 6] (ePm 7 rfl (by decide +kernel)) rfl ?_
    refine z_pick (Γ' := [eO o1 2 [.int nu, .ref qa, .int v.li, .int v.tu, .int v.st, .int 0, .int 0], eLL qa 0 [], qE [], eO b 2 [.int nu, .ref bq, .int v.li, .int v.tu, .int v.st, .int v.gd, .int v.ck], eLL bq bm (qX []), qE [], rs]) [0, 1, 4, 3, 2, 6, 5] (ePm 7 rfl (by decide +kernel)) rfl ?_
    subst hQ_
    exact z_aret (Γ := [eO o1 2 [.int nu, .ref qa, .int v.li, .int v.tu, .int v.st, .int 0, .int 0], eLL qa 0 [], qE [], eO b 2 [.int nu, .ref bq, .int v.li, .int v.tu, .int v.st, .int v.gd, .int v.ck], eLL bq bm (qX []), qE []]) C dX2_alone_71 rfl (Or.inl ⟨_, rfl⟩) (Or.inr ⟨_, rfl⟩) (Nat.le_of_ble_eq_true rfl) (Nat.le_of_ble_eq_true rfl) ⟨o1, qa, 0, [], rfl, rfl, rfl⟩
  · rcases zs with _ | ⟨⟨⟨n0, j0⟩, g⟩, zs⟩
    case nil => cases h1
    refine z_cut 4 (bs := [eO j0 5 [.int g.w, .int g.sh, .int g.y, .int g.c, .int g.sp, .int g.t], qE zs]) rfl (by simp [qE_cons]) rfl ?_
    show eZ x E _ [eLL bq bm ((n0, j0) :: qX zs), eO o1 2 [.int nu, .ref qa, .int 50, .int 1, .int 0, .int 0, .int 0], eLL qa 0 [], eO b 2 [.int nu, .ref bq, .int v.li, .int v.tu, .int v.st, .int v.gd, .int v.ck], eO j0 5 [.int g.w, .int g.sh, .int g.y, .int g.c, .int g.sp, .int g.t], qE zs, rs] 22 [some (.ref b), some (.ref o1)] [] 2 11
    refine z_aload_n C dX2_alone_22 rfl rfl ?_
    refine z_get eK2 1 1 C dX2_alone_23 rfl rfl q172 (eSame1 rfl) (by decide) rfl ?_
    refine z_new (fs := [.int 0, .int 0, .int 0, .int 0, .int 0, .int 0]) eK5 C dX2_alone_26 rfl q897 q898 q80 rfl (Nat.le_of_ble_eq_true rfl) (Nat.le_of_ble_eq_true rfl) (fun o2 => ?_)
    show eZ x E _ [eLL bq bm ((n0, j0) :: qX zs), eO o1 2 [.int nu, .ref qa, .int 50, .int 1, .int 0, .int 0, .int 0], eLL qa 0 [], eO b 2 [.int nu, .ref bq, .int v.li, .int v.tu, .int v.st, .int v.gd, .int v.ck], eO j0 5 [.int g.w, .int g.sh, .int g.y, .int g.c, .int g.sp, .int g.t], qE zs, rs, eO o2 5 [.int 0, .int 0, .int 0, .int 0, .int 0, .int 0]] 29 [some (.ref b), some (.ref o1)] [.ref o2, .ref qa] 3 17
    refine z_dup C dX2_alone_29 rfl ?_
    refine z_aload_n C dX2_alone_30 rfl rfl ?_
    refine z_get eK2 3 1 C dX2_alone_31 rfl rfl q172 (eSame1 rfl) (by decide) rfl ?_
    refine z_callV (r := (RJ4, TJ4, 4)) (As := []) (rest := [.ref o2, .ref o2, .ref qa]) (Δ := [eO o1 2 [.int nu, .ref qa, .int 50, .int 1, .int 0, .int 0, .int 0], eLL qa 0 [], eO b 2 [.int nu, .ref bq, .int v.li, .int v.tu, .int v.st, .int v.gd, .int v.ck], eO j0 5 [.int g.w, .int g.sh, .int g.y, .int g.c, .int g.sp, .int g.t], qE zs, rs, eO o2 5 [.int 0, .int 0, .int 0, .int 0, .int 0, .int 0]]) [0] [1, 2, 3, 4, 5, 6, 7] 0 (m_LL_getFirst hl E bq n0 j0 bm (qX zs)) C dX2_alone_34 rfl rfl (eIn (i := 0) rfl eLL_mem) rfl rfl q1383 q1105 q1106 q55 q1107 (by decide +kernel) rfl (ePm 8 rfl (by decide +kernel)) rfl rfl ⟨Nat.le_of_ble_eq_true rfl, Nat.le_of_ble_eq_true rfl⟩ (Nat.le_trans (eSm rfl (eSm rfl (eSm rfl eS0))) (Nat.le_of_ble_eq_true rfl)) ⟨Nat.le_of_ble_eq_true rfl, Nat.le_of_ble_eq_true rfl⟩ (fun v_ Γ_ hp_ => ?_)
    obtain ⟨rfl, rfl⟩ := hp_
    show eZ x E _ [eLL bq bm ((n0, j0) :: qX zs), eO o1 2 [.int nu, .ref qa, .int 50, .int 1, .int 0, .int 0, .int 0], eLL qa 0 [], eO b 2 [.int nu, .ref bq, .int v.li, .int v.tu, .int v.st, .int v.gd, .int v.ck], eO j0 5 [.int g.w, .int g.sh, .int g.y, .int g.c, .int g.sp, .int g.t], qE zs, rs, eO o2 5 [.int 0, .int 0, .int 0, .int 0, .int 0, .int 0]] 37 [some (.ref b), some (.ref o1)] [.ref j0, .ref o2, .ref o2, .ref qa] 3 17
    refine z_castE C dX2_alone_37 (eIn (i := 4) rfl List.mem_cons_self) (show eCl[5]? = some _ from rfl) rfl q897 ?_
    refine z_callI (As := [.ref j0]) (rest := [.ref o2, .ref qa]) (Δ := [eLL bq bm ((n0, j0) :: qX zs), eO o1 2 [.int nu, .ref qa, .int 50, .int 1, .int 0, .int 0, .int 0], eLL qa 0 [], eO b 2 [.int nu, .ref bq, .int v.li, .int v.tu, .int v.st, .int v.gd, .int v.ck], qE zs, rs]) [7, 4] [0, 1, 2, 3, 5, 6] 1 (m_Egg_init hl E o2 j0 g) C dX2_alone_40 rfl rfl rfl q899 q900 q80 q901 rfl (by decide +kernel) rfl (ePm 8 rfl (by decide +kernel)) rfl rfl ⟨Nat.le_of_ble_eq_true rfl, Nat.le_of_ble_eq_true rfl⟩ (Nat.le_trans (eSm rfl (eSm rfl eS0)) (Nat.le_of_ble_eq_true rfl)) ⟨Nat.le_of_ble_eq_true rfl, Nat.le_of_ble_eq_true rfl⟩ (fun v_ Γ_ hp_ => ?_)
    obtain ⟨rfl, rfl⟩ := hp_
    show eZ x E _ [eO o2 5 [.int g.w, .int g.sh, .int g.y, .int g.c, .int g.sp, .int g.t], eO j0 5 [.int g.w, .int g.sh, .int g.y, .int g.c, .int g.sp, .int g.t], eLL bq bm ((n0, j0) :: qX zs), eO o1 2 [.int nu, .ref qa, .int 50, .int 1, .int 0, .int 0, .int 0], eLL qa 0 [], eO b 2 [.int nu, .ref bq, .int v.li, .int v.tu, .int v.st, .int v.gd, .int v.ck], qE zs, rs] 43 [some (.ref b), some (.ref o1)] [.ref o2, .ref qa] 3 17
    refine z_callV (r := (RJ4, TJ4, 4)) (As := [.ref o2]) (rest := []) (Δ := [eO o2 5 [.int g.w, .int g.sh, .int g.y, .int g.c, .int g.sp, .int g.t], eO j0 5 [.int g.w, .int g.sh, .int g.y, .int g.c, .int g.sp, .int g.t], eLL bq bm ((n0, j0) :: qX zs), eO o1 2 [.int nu, .ref qa, .int 50, .int 1, .int 0, .int 0, .int 0], eO b 2 [.int nu, .ref bq, .int v.li, .int v.tu, .int v.st, .int v.gd, .int v.ck], qE zs, rs]) [4] [0, 1, 2, 3, 5, 6, 7] 1 (m_LL_addLast hl E qa o2 0 []) C dX2_alone_43 rfl rfl (eIn (i := 4) rfl eLL_mem) rfl rfl q938 q939 q940 q55 q941 (by decide +kernel) rfl (ePm 8 rfl (by decide +kernel)) rfl rfl ⟨Nat.le_of_ble_eq_true rfl, Nat.le_of_ble_eq_true rfl⟩ (Nat.le_trans eS0 (Nat.le_of_ble_eq_true rfl)) ⟨Nat.le_of_ble_eq_true rfl, Nat.le_of_ble_eq_true rfl⟩ (fun v_ Γ_ hp_ => ?_)
    obtain ⟨rfl, n1, rfl⟩ := hp_
    show eZ x E _ [eLL qa (0 + 1) ([] ++ [(n1, o2)]), eO o2 5 [.int g.w, .int g.sh, .int g.y, .int g.c, .int g.sp, .int g.t], eO j0 5 [.int g.w, .int g.sh, .int g.y, .int g.c, .int g.sp, .int g.t], eLL bq bm ((n0, j0) :: qX zs), eO o1 2 [.int nu, .ref qa, .int 50, .int 1, .int 0, .int 0, .int 0], eO b 2 [.int nu, .ref bq, .int v.li, .int v.tu, .int v.st, .int v.gd, .int v.ck], qE zs, rs] 46 [some (.ref b), some (.ref o1)] [] 4 20
    refine z_pick (Γ' := [eO j0 5 [.int g.w, .int g.sh, .int g.y, .int g.c, .int g.sp, .int g.t], qE zs, eLL qa (0 + 1) ([] ++ [(n1, o2)]), eO o2 5 [.int g.w, .int g.sh, .int g.y, .int g.c, .int g.sp, .int g.t], eLL bq bm ((n0, j0) :: qX zs), eO o1 2 [.int nu, .ref qa, .int 50, .int 1, .int 0, .int 0, .int 0], eO b 2 [.int nu, .ref bq, .int v.li, .int v.tu, .int v.st, .int v.gd, .int v.ck], rs]) [2, 6, 0, 1, 3, 4, 5, 7] (ePm 8 rfl (by decide +kernel)) rfl ?_
    refine z_join 2 (b := qE (((n0, j0), g) :: zs)) (by simp [qE_cons]) rfl ?_
    show eZ x E _ [qE (((n0, j0), g) :: zs), eLL qa (0 + 1) ([] ++ [(n1, o2)]), eO o2 5 [.int g.w, .int g.sh, .int g.y, .int g.c, .int g.sp, .int g.t], eLL bq bm ((n0, j0) :: qX zs), eO o1 2 [.int nu, .ref qa, .int 50, .int 1, .int 0, .int 0, .int 0], eO b 2 [.int nu, .ref bq, .int v.li, .int v.tu, .int v.st, .int v.gd, .int v.ck], rs] 46 [some (.ref b), some (.ref o1)] [] 4 20
    refine z_pick (Γ' := [eO o2 5 [.int g.w, .int g.sh, .int g.y, .int g.c, .int g.sp, .int g.t], qE (((n0, j0), g) :: zs), eLL qa (0 + 1) ([] ++ [(n1, o2)]), eLL bq bm ((n0, j0) :: qX zs), eO o1 2 [.int nu, .ref qa, .int 50, .int 1, .int 0, .int 0, .int 0], eO b 2 [.int nu, .ref bq, .int v.li, .int v.tu, .int v.st, .int v.gd, .int v.ck], rs]) [2, 0, 1, 3, 4, 5, 6] (ePm 7 rfl (by decide +kernel)) rfl ?_
    refine z_join 1 (b := qE [((n1, o2), g)]) (by simp [qE_cons, qE_nil]) rfl ?_
    show eZ x E _ [qE [((n1, o2), g)], qE (((n0, j0), g) :: zs), eLL qa (0 + 1) ([] ++ [(n1, o2)]), eLL bq bm ((n0, j0) :: qX zs), eO o1 2 [.int nu, .ref qa, .int 50, .int 1, .int 0, .int 0, .int 0], eO b 2 [.int nu, .ref bq, .int v.li, .int v.tu, .int v.st, .int v.gd, .int v.ck], rs] 46 [some (.ref b), some (.ref o1)] [] 4 20
    refine z_aload_n C dX2_alone_46 rfl rfl ?_
    refine z_aload_n C dX2_alone_47 rfl rfl ?_
    refine z_get eK2 5 2 C dX2_alone_48 rfl rfl q175 (eSame1 rfl) (by decide) rfl ?_
    refine z_put eK2 4 2 (Γ2 := [qE [((n1, o2), g)], qE (((n0, j0), g) :: zs), eLL qa (0 + 1) ([] ++ [(n1, o2)]), eLL bq bm ((n0, j0) :: qX zs), eO o1 2 [.int nu, .ref qa, .int v.li, .int 1, .int 0, .int 0, .int 0], eO b 2 [.int nu, .ref bq, .int v.li, .int v.tu, .int v.st, .int v.gd, .int v.ck], rs]) C dX2_alone_51 rfl rfl q175 (eSame1 rfl) (by decide) rfl rfl rfl rfl (Nat.le_of_ble_eq_true rfl) rfl ?_
    refine z_aload_n C dX2_alone_54 rfl rfl ?_
    refine z_aload_n C dX2_alone_55 rfl rfl ?_
    refine z_get eK2 5 3 C dX2_alone_56 rfl rfl q178 (eSame1 rfl) (by decide) rfl ?_
    refine z_put eK2 4 3 (Γ2 := [qE [((n1, o2), g)], qE (((n0, j0), g) :: zs), eLL qa (0 + 1) ([] ++ [(n1, o2)]), eLL bq bm ((n0, j0) :: qX zs), eO o1 2 [.int nu, .ref qa, .int v.li, .int v.tu, .int 0, .int 0, .int 0], eO b 2 [.int nu, .ref bq, .int v.li, .int v.tu, .int v.st, .int v.gd, .int v.ck], rs]) C dX2_alone_59 rfl rfl q178 (eSame1 rfl) (by decide) rfl rfl rfl rfl (Nat.le_of_ble_eq_true rfl) rfl ?_
    refine z_aload_n C dX2_alone_62 rfl rfl ?_
    refine z_aload_n C dX2_alone_63 rfl rfl ?_
    refine z_get eK2 5 4 C dX2_alone_64 rfl rfl q181 (eSame1 rfl) (by decide) rfl ?_
    refine z_put eK2 4 4 (Γ2 := [qE [((n1, o2), g)], qE (((n0, j0), g) :: zs), eLL qa (0 + 1) ([] ++ [(n1, o2)]), eLL bq bm ((n0, j0) :: qX zs), eO o1 2 [.int nu, .ref qa, .int v.li, .int v.tu, .int v.st, .int 0, .int 0], eO b 2 [.int nu, .ref bq, .int v.li, .int v.tu, .int v.st, .int v.gd, .int v.ck], rs]) C dX2_alone_67 rfl rfl q181 (eSame1 rfl) (by decide) rfl rfl rfl rfl (Nat.le_of_ble_eq_true rfl) rfl ?_
    refine z_aload_n C dX2_alone_70 rfl rfl ?_
    refine z_pick (Γ' := [eO o1 2 [.int nu, .ref qa, .int v.li, .int v.tu, .int v.st, .int 0, .int 0], eLL qa (0 + 1) ([] ++ [(n1, o2)]), qE [((n1, o2), g)], eO b 2 [.int nu, .ref bq, .int v.li, .int v.tu, .int v.st, .int v.gd, .int v.ck], eLL bq bm ((n0, j0) :: qX zs), qE (((n0, j0), g) :: zs), rs]) [4, 2, 0, 5, 3, 1, 6] (ePm 7 rfl (by decide +kernel)) rfl ?_
    subst hQ_
    exact z_aret (Γ := [eO o1 2 [.int nu, .ref qa, .int v.li, .int v.tu, .int v.st, .int 0, .int 0], eLL qa (0 + 1) ([] ++ [(n1, o2)]), qE [((n1, o2), g)], eO b 2 [.int nu, .ref bq, .int v.li, .int v.tu, .int v.st, .int v.gd, .int v.ck], eLL bq bm ((n0, j0) :: qX zs), qE (((n0, j0), g) :: zs)]) C dX2_alone_71 rfl (Or.inl ⟨_, rfl⟩) (Or.inr ⟨_, rfl⟩) (Nat.le_of_ble_eq_true rfl) (Nat.le_of_ble_eq_true rfl) ⟨o1, qa, 0 + 1, [((n1, o2), g)], rfl, rfl, rfl⟩

set_option maxHeartbeats 4000000 in
theorem m_Lane_seen {l : Launch} (hl : l.stackTraces = false) (E : eEn) (a qa : Nat) (nu : Int32) (v : Lv) (N : Nat) (hN : N ≤ 100) : eMet l E yX2_seen (ws_ yX2_seen cX2_seen 4 (some .int)) ({ frames := 0, cells := 0, slots := 0, locals := 0 }) [.ref a, .int (nI N)] [eO a 2 [.int nu, .ref qa, .int v.li, .int v.tu, .int v.st, .int v.gd, .int v.ck]] (fun w Γ => w = some (.int (gSeenL v.tu N)) ∧ Γ = [eLo a qa nu v]) := by
  refine eStart (cc := cX2_seen) (nL := 4) (L := [some (.ref a), some (.int (nI N)), none, none]) hl (by decide) rfl (List.forall_mem_cons.mpr ⟨rfl, (List.forall_mem_cons.mpr ⟨rfl, (fun _ h => absurd h List.not_mem_nil)⟩)⟩) (Nat.le_of_ble_eq_true rfl) ?_
  intro x rs C
  show eZ x E (eQ x E (fun w Γ => w = some (.int (gSeenL v.tu N)) ∧ Γ = [eLo a qa nu v]) rs) [eO a 2 [.int nu, .ref qa, .int v.li, .int v.tu, .int v.st, .int v.gd, .int v.ck], rs] 0 [some (.ref a), some (.int (nI N)), none, none] [] 0 0
  generalize hQ_ : eQ x E (fun w Γ => w = some (.int (gSeenL v.tu N)) ∧ Γ = [eLo a qa nu v]) rs = Q_
  refine z_iconst (v := 0) C dX2_seen_0 (by decide) ?_
  refine z_istore_n (L2 := [some (.ref a), some (.int (nI N)), some (.int 0), none]) C dX2_seen_1 rfl (Nat.le_of_ble_eq_true rfl) rfl ?_
  refine z_iconst (v := 0) C dX2_seen_2 (by decide) ?_
  refine z_istore_n (L2 := [some (.ref a), some (.int (nI N)), some (.int 0), some (.int 0)]) C dX2_seen_3 rfl (Nat.le_of_ble_eq_true rfl) rfl ?_
  have K : ∀ d i : Nat, N - i = d → i ≤ N → eZ x E Q_ [eO a 2 [.int nu, .ref qa, .int v.li, .int v.tu, .int v.st, .int v.gd, .int v.ck], rs] 4 [some (.ref a), some (.int (nI N)), some (.int (gSeenL v.tu i)), some (.int (nI i))] [] 0 0 := by
    intro d
    induction d with
    | zero =>
      intro i hd hi
      obtain rfl : i = N := by omega
      refine z_iload_n C dX2_seen_4 rfl rfl ?_
      refine z_iload_n C dX2_seen_5 rfl rfl ?_
      refine z_icmp_ge 29 C dX2_seen_6 (by decide) (fun h1 => ?_) (fun h1 => ?_)
      · refine z_iload_n C dX2_seen_29 rfl rfl ?_
        subst hQ_
        exact z_ret (Γ := [eO a 2 [.int nu, .ref qa, .int v.li, .int v.tu, .int v.st, .int v.gd, .int v.ck]]) C dX2_seen_30 rfl rfl (Nat.le_of_ble_eq_true rfl) (Nat.le_of_ble_eq_true rfl) ⟨rfl, rfl⟩
      · exact absurd (Int32.le_refl _) h1
    | succ d ih =>
      intro i hd hi
      refine z_iload_n C dX2_seen_4 rfl rfl ?_
      refine z_iload_n C dX2_seen_5 rfl rfl ?_
      refine z_icmp_ge 29 C dX2_seen_6 (by decide) (fun h1 => ?_) (fun h1 => ?_)
      · exact absurd (nI_lt (a := i) (b := N) (by omega) (by omega)) (Int32.not_lt.mpr h1)
      · refine z_iload_n C dX2_seen_9 rfl rfl ?_
        refine z_iconst (v := 1) C dX2_seen_10 (by decide) ?_
        refine z_iload_n C dX2_seen_11 rfl rfl ?_
        refine z_aload_n C dX2_seen_12 rfl rfl ?_
        refine z_get eK2 0 3 C dX2_seen_13 rfl rfl q178 (eSame1 rfl) (by decide) rfl ?_
        refine z_imul (w := (nI i) * v.tu) C dX2_seen_16 rfl ?_
        refine z_bipush (v := 8) C dX2_seen_17 (by decide) ?_
        refine z_irem (w := ((nI i) * v.tu) - ((nI i) * v.tu) / 8 * 8) C dX2_seen_19 (by decide) rfl ?_
        refine z_ishl (w := 1 <<< ((((nI i) * v.tu) - ((nI i) * v.tu) / 8 * 8) &&& 31)) C dX2_seen_20 rfl ?_
        refine z_ior (w := (gSeenL v.tu i) ||| (1 <<< ((((nI i) * v.tu) - ((nI i) * v.tu) / 8 * 8) &&& 31))) C dX2_seen_21 rfl ?_
        refine z_istore_n (L2 := [some (.ref a), some (.int (nI N)), some (.int ((gSeenL v.tu i) ||| (1 <<< ((((nI i) * v.tu) - ((nI i) * v.tu) / 8 * 8) &&& 31)))), some (.int (nI i))]) C dX2_seen_22 rfl (Nat.le_of_ble_eq_true rfl) rfl ?_
        refine z_iinc (v := nI (i + 1)) (L2 := [some (.ref a), some (.int (nI N)), some (.int ((gSeenL v.tu i) ||| (1 <<< ((((nI i) * v.tu) - ((nI i) * v.tu) / 8 * 8) &&& 31)))), some (.int (nI (i + 1)))]) C dX2_seen_23 rfl (nI_1 i) rfl ?_
        refine z_goto 4 C dX2_seen_26 (by decide) ?_
        exact ih (i + 1) (by omega) (by omega)
  exact K _ 0 rfl (by omega)
