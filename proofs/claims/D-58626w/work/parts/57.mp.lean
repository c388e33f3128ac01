/-! ===== the model: the belt ===== -/
set_option maxRecDepth 100000
/-- the array f against the array f0 of before: lane N, crates, book, totals, settings -/
def rP (f0 f : Nat → Int32) (N : Nat) (v : Lv) (gs : List Eg) (cs : List Cr) (bs : List Enr) (tt st : Nat → Int32) : Prop :=
  rL1 f N v gs ∧ (∀ k, k < 216 → ¬ ((48 * N ≤ k ∧ k < 48 * N + 48) ∨ (192 + 6 * N ≤ k ∧ k < 198 + 6 * N)) → f k = f0 k) ∧ rC f cs ∧ rB f bs ∧ (∀ j, j < 11 → f (296 + j) = tt j) ∧ rS f st
/-- the sizes that a place needs -/
def rZ (N : Nat) (gs : List Eg) (cs : List Cr) (bs : List Enr) : Prop := N < 4 ∧ gs.length ≤ 8 ∧ cs.length ≤ 6 ∧ bs.length ≤ 10
theorem rP_of {f : Nat → Int32} {A : Am} {N : Nat} {v : Lv} {gs : List Eg} (R : Rep f A) (hx : A.ls[N]? = some (v, gs)) : rP f f N v gs A.cs A.bs (gTF A) A.st := ⟨R.1 N (v, gs) hx, fun _ _ _ => rfl, R.2.1, R.2.2.1, R.2.2.2.1, R.2.2.2.2⟩
theorem rP_to {f f2 : Nat → Int32} {A A2 : Am} {N : Nat} {v : Lv} {gs : List Eg} {cs : List Cr} {bs : List Enr} {tt st : Nat → Int32} (R : Rep f A) (hok : gOk A) (hN4 : N < 4) (h : rP f f2 N v gs cs bs tt st) (h1 : A2.ls = A.ls.set N (v, gs)) (h2 : A2.cs = cs) (h3 : A2.bs = bs) (h4 : A2.st = st) (ht : ∀ j, j < 11 → tt j = gTF A2 j) : Rep f2 A2 := by
  obtain ⟨r1, r2, r3, r4, r5, r6⟩ := h
  refine ⟨?_, by rw [h2]; exact r3, by rw [h3]; exact r4, fun j hj => by rw [r5 j hj]; exact ht j hj, by rw [h4]; exact r6⟩
  rw [h1]
  exact rL_set hN4 (Nat.le_of_eq hok.1) hok.2.1 r2 R.1 r1
/-- another array that differs in a part alone -/
theorem rP_fr {f0 f f2 : Nat → Int32} {N : Nat} {v : Lv} {gs : List Eg} {cs : List Cr} {bs : List Enr} {tt st : Nat → Int32} (h : rP f0 f N v gs cs bs tt st) (hz : rZ N gs cs bs) (hk : ∀ k, k < 311 → f2 k = f k) : rP f0 f2 N v gs cs bs tt st := by
  obtain ⟨r1, r2, r3, r4, r5, r6⟩ := h
  obtain ⟨z1, z2, z3, z4⟩ := hz
  exact ⟨rL1_fr z2 (fun k h => hk k (by omega)) r1, fun k h1 h2 => by rw [hk k (by omega)]; exact r2 k h1 h2, rC_fr z3 (fun k h1 h2 => hk k (by omega)) r3, rB_fr z4 (fun k h1 h2 => hk k (by omega)) r4, fun j hj => by rw [hk _ (by omega)]; exact r5 j hj, rS_fr (fun k h1 h2 => hk k h2) r6⟩
theorem rP_t {f0 f : Nat → Int32} {N : Nat} {v : Lv} {gs : List Eg} {cs : List Cr} {bs : List Enr} {tt st : Nat → Int32} (j : Nat) (x : Int32) (hj : j < 11) (hz : rZ N gs cs bs) (h : rP f0 f N v gs cs bs tt st) : rP f0 (upd f (296 + j) x) N v gs cs bs (upd tt j x) st := by
  obtain ⟨r1, r2, r3, r4, r5, r6⟩ := h
  obtain ⟨z1, z2, z3, z4⟩ := hz
  refine ⟨rL1_fr z2 (fun k h => upd_ne_ (by omega)) r1, fun k h1 h2 => by rw [upd_ne_ (by omega)]; exact r2 k h1 h2, rC_fr z3 (fun k h1 h2 => upd_ne_ (by omega)) r3, rB_fr z4 (fun k h1 h2 => upd_ne_ (by omega)) r4, fun i hi => ?_, rS_fr (fun k h1 h2 => upd_ne_ (by omega)) r6⟩
  by_cases he : i = j
  · subst he; rw [upd_self_, upd_self_]
  · rw [upd_ne_ (by omega), upd_ne_ he]; exact r5 i hi
theorem rP_s {f0 f : Nat → Int32} {N : Nat} {v : Lv} {gs : List Eg} {cs : List Cr} {bs : List Enr} {tt st : Nat → Int32} (j : Nat) (x : Int32) (hj : j < 4) (hz : rZ N gs cs bs) (h : rP f0 f N v gs cs bs tt st) : rP f0 (upd f (307 + j) x) N v gs cs bs tt (upd st j x) := by
  obtain ⟨r1, r2, r3, r4, r5, r6⟩ := h
  obtain ⟨z1, z2, z3, z4⟩ := hz
  refine ⟨rL1_fr z2 (fun k h => upd_ne_ (by omega)) r1, fun k h1 h2 => by rw [upd_ne_ (by omega)]; exact r2 k h1 h2, rC_fr z3 (fun k h1 h2 => upd_ne_ (by omega)) r3, rB_fr z4 (fun k h1 h2 => upd_ne_ (by omega)) r4, fun i hi => by rw [upd_ne_ (by omega)]; exact r5 i hi, fun i hi => ?_⟩
  by_cases he : i = j
  · subst he; rw [upd_self_, upd_self_]
  · rw [upd_ne_ (by omega), upd_ne_ he]; exact r6 i hi
theorem rP_l {f0 f : Nat → Int32} {N : Nat} {v : Lv} (v2 : Lv) {gs : List Eg} {cs : List Cr} {bs : List Enr} {tt st : Nat → Int32} (j : Nat) (x : Int32) (hj : 1 ≤ j ∧ j < 6) (hv : ∀ i, 1 ≤ i → i < 6 → gLF v2 i = if i = j then x else gLF v i) (hz : rZ N gs cs bs) (h : rP f0 f N v gs cs bs tt st) : rP f0 (upd f (192 + 6 * N + j) x) N v2 gs cs bs tt st := by
  obtain ⟨r1, r2, r3, r4, r5, r6⟩ := h
  obtain ⟨z1, z2, z3, z4⟩ := hz
  refine ⟨⟨by rw [upd_ne_ (by omega)]; exact r1.1, fun i h1 h2 => ?_, fun p g hg i hi => ?_⟩, fun k h1 h2 => by rw [upd_ne_ (by omega)]; exact r2 k h1 h2, rC_fr z3 (fun k h1 h2 => upd_ne_ (by omega)) r3, rB_fr z4 (fun k h1 h2 => upd_ne_ (by omega)) r4, fun i hi => by rw [upd_ne_ (by omega)]; exact r5 i hi, rS_fr (fun k h1 h2 => upd_ne_ (by omega)) r6⟩
  · rw [hv i h1 h2]
    by_cases he : i = j
    · subst he; rw [upd_self_, if_pos rfl]
    · rw [upd_ne_ (by omega), if_neg he]; exact r1.2.1 i h1 h2
  · have hp : p < gs.length := (List.getElem?_eq_some_iff.mp hg).1
    rw [upd_ne_ (by omega)]; exact r1.2.2 p g hg i hi
theorem rP_e {f0 f : Nat → Int32} {N : Nat} {v : Lv} {gs : List Eg} {cs : List Cr} {bs : List Enr} {tt st : Nat → Int32} (p : Nat) (g g2 : Eg) (hg : gs[p]? = some g) (j : Nat) (x : Int32) (hj : j < 6) (hv : ∀ i, i < 6 → gEF g2 i = if i = j then x else gEF g i) (hz : rZ N gs cs bs) (h : rP f0 f N v gs cs bs tt st) : rP f0 (upd f (48 * N + 6 * p + j) x) N v (gs.set p g2) cs bs tt st := by
  obtain ⟨r1, r2, r3, r4, r5, r6⟩ := h
  obtain ⟨z1, z2, z3, z4⟩ := hz
  have hp : p < gs.length := (List.getElem?_eq_some_iff.mp hg).1
  refine ⟨⟨by rw [List.length_set, upd_ne_ (by omega)]; exact r1.1, fun i h1 h2 => by rw [upd_ne_ (by omega)]; exact r1.2.1 i h1 h2, fun q g9 hg9 i hi => ?_⟩, fun k h1 h2 => by rw [upd_ne_ (by omega)]; exact r2 k h1 h2, rC_fr z3 (fun k h1 h2 => upd_ne_ (by omega)) r3, rB_fr z4 (fun k h1 h2 => upd_ne_ (by omega)) r4, fun i hi => by rw [upd_ne_ (by omega)]; exact r5 i hi, rS_fr (fun k h1 h2 => upd_ne_ (by omega)) r6⟩
  by_cases hq : p = q
  · subst hq
    rw [List.getElem?_set_self hp] at hg9
    cases hg9
    rw [hv i hi]
    by_cases he : i = j
    · subst he; rw [upd_self_, if_pos rfl]
    · rw [upd_ne_ (by omega), if_neg he]; exact r1.2.2 p g hg i hi
  · rw [List.getElem?_set_ne hq] at hg9
    rw [upd_ne_ (by omega)]; exact r1.2.2 q g9 hg9 i hi
theorem rP_c {f0 f : Nat → Int32} {N : Nat} {v : Lv} {gs : List Eg} {cs : List Cr} {bs : List Enr} {tt st : Nat → Int32} (k : Nat) (c c2 : Cr) (hc : cs[k]? = some c) (j : Nat) (x : Int32) (hj : j < 5) (hv : ∀ i, i < 5 → gCF c2 i = if i = j then x else gCF c i) (hz : rZ N gs cs bs) (h : rP f0 f N v gs cs bs tt st) : rP f0 (upd f (216 + 5 * k + j) x) N v gs (cs.set k c2) bs tt st := by
  obtain ⟨r1, r2, r3, r4, r5, r6⟩ := h
  obtain ⟨z1, z2, z3, z4⟩ := hz
  have hp : k < cs.length := (List.getElem?_eq_some_iff.mp hc).1
  refine ⟨rL1_fr z2 (fun k h => upd_ne_ (by omega)) r1, fun k h1 h2 => by rw [upd_ne_ (by omega)]; exact r2 k h1 h2, fun q c9 hc9 i hi => ?_, rB_fr z4 (fun k h1 h2 => upd_ne_ (by omega)) r4, fun i hi => by rw [upd_ne_ (by omega)]; exact r5 i hi, rS_fr (fun k h1 h2 => upd_ne_ (by omega)) r6⟩
  by_cases hq : k = q
  · subst hq
    rw [List.getElem?_set_self hp] at hc9
    cases hc9
    rw [hv i hi]
    by_cases he : i = j
    · subst he; rw [upd_self_, if_pos rfl]
    · rw [upd_ne_ (by omega), if_neg he]; exact r3 k c hc i hi
  · rw [List.getElem?_set_ne hq] at hc9
    rw [upd_ne_ (by omega)]; exact r3 q c9 hc9 i hi
/-- an egg more behind the others -/
theorem rP_app {f0 f : Nat → Int32} {N : Nat} {v : Lv} {gs : List Eg} {cs : List Cr} {bs : List Enr} {tt st : Nat → Int32} (g : Eg) (hg : ∀ j, j < 6 → f (48 * N + 6 * gs.length + j) = gEF g j) (h8 : gs.length < 8) (hz : rZ N gs cs bs) (h : rP f0 f N v gs cs bs tt st) : rP f0 (upd f (192 + 6 * N) (nI (gs.length + 1))) N v (gs ++ [g]) cs bs tt st := by
  obtain ⟨r1, r2, r3, r4, r5, r6⟩ := h
  obtain ⟨z1, z2, z3, z4⟩ := hz
  refine ⟨⟨by rw [upd_self_, List.length_append]; rfl, fun i h1 h2 => by rw [upd_ne_ (by omega)]; exact r1.2.1 i h1 h2, fun q g9 hg9 i hi => ?_⟩, fun k h1 h2 => by rw [upd_ne_ (by omega)]; exact r2 k h1 h2, rC_fr z3 (fun k h1 h2 => upd_ne_ (by omega)) r3, rB_fr z4 (fun k h1 h2 => upd_ne_ (by omega)) r4, fun i hi => by rw [upd_ne_ (by omega)]; exact r5 i hi, rS_fr (fun k h1 h2 => upd_ne_ (by omega)) r6⟩
  have hq : q < (gs ++ [g]).length := (List.getElem?_eq_some_iff.mp hg9).1
  rw [List.length_append] at hq
  have hq2 : q < gs.length + 1 := hq
  rw [upd_ne_ (by omega)]
  rcases Nat.lt_or_ge q gs.length with hlt | hge
  · rw [List.getElem?_append_left hlt] at hg9; exact r1.2.2 q g9 hg9 i hi
  · obtain rfl : q = gs.length := by omega
    rw [List.getElem?_append_right (Nat.le_refl _), Nat.sub_self] at hg9
    cases hg9
    exact hg i hi
/-! the book moves by one -/
def mE (f : Nat → Int32) (i : Nat) : Nat → Int32 := fun k => if 246 + i < k ∧ k < 296 then f (k - 5) else f k
theorem mE_o {f : Nat → Int32} {i k : Nat} (h : ¬ (246 + i < k ∧ k < 296)) : mE f i k = f k := if_neg h
theorem mE_i {f : Nat → Int32} {i k : Nat} (h : 246 + i < k ∧ k < 296) : mE f i k = f (k - 5) := if_pos h
theorem mE_0 (f : Nat → Int32) : mE f 49 = f := by funext k; exact mE_o (by omega)
theorem mE_s (f : Nat → Int32) (d : Nat) (h : d < 45) : mE f (d + 4) = upd (mE f (d + 1 + 4)) (246 + (d + 1 + 4)) (mE f (d + 1 + 4) (241 + (d + 1 + 4))) := by
  funext k
  by_cases hk : k = 246 + (d + 1 + 4)
  · subst hk; rw [upd_self_, mE_i (by omega), mE_o (by omega)]; congr 1; omega
  · rw [upd_ne_ hk]
    by_cases h2 : 246 + (d + 4) < k ∧ k < 296
    · rw [mE_i h2, mE_i (by omega)]
    · rw [mE_o h2, mE_o (by omega)]
theorem gBk_len (bs : List Enr) (e : Enr) (h10 : bs.length ≤ 10) : (nI bs.length + if nI bs.length < 10 then 1 else 0) = nI (gBook e bs).length := by
  rw [gBook, List.length_take, List.length_cons]
  rcases Nat.lt_or_ge bs.length 10 with h | h
  · have h9 : nI bs.length < 10 := nI_lt (b := 10) h (by decide)
    rw [if_pos h9, Nat.min_eq_right (by omega)]
    exact nI_1 _
  · have h9 : ¬ nI bs.length < 10 := Int32.not_lt.mpr (nI_le (a := 10) (b := bs.length) h (by omega))
    rw [if_neg h9, Nat.min_eq_left (by omega), show bs.length = 10 by omega, Int32.add_zero]
theorem nI_m1 (n : Nat) : nI (n + 1) + (-1) = nI n := by have := nI_pred n; rw [Int32.sub_eq_add_neg] at this; exact this
theorem nI_m5 (n : Nat) : nI (n + 5) - 5 = nI n := by rw [← nI_add n 5]; exact Int32.add_sub_cancel _ _
def mEn (f : Nat → Int32) (e : Enr) (n : Int32) : Nat → Int32 := upd (upd (upd (upd (upd (upd (mE f 4) 246 e.tick) 247 e.lane) 248 e.w) 249 e.grade) 250 (eB e.cr)) 305 n
theorem mEn_o {f : Nat → Int32} {e : Enr} {n : Int32} {k : Nat} (h : k < 246 ∨ (296 ≤ k ∧ k ≠ 305)) : mEn f e n k = f k := by
  unfold mEn
  rw [upd_ne_ (by omega), upd_ne_ (by omega), upd_ne_ (by omega), upd_ne_ (by omega), upd_ne_ (by omega), upd_ne_ (by omega), mE_o (by omega)]
theorem rP_en {f0 f : Nat → Int32} {N : Nat} {v : Lv} {gs : List Eg} {cs : List Cr} {bs : List Enr} {tt st : Nat → Int32} (e : Enr) (hz : rZ N gs cs bs) (h : rP f0 f N v gs cs bs tt st) : rP f0 (mEn f e (nI (gBook e bs).length)) N v gs cs (gBook e bs) (upd tt 9 (nI (gBook e bs).length)) st := by
  obtain ⟨r1, r2, r3, r4, r5, r6⟩ := h
  obtain ⟨z1, z2, z3, z4⟩ := hz
  refine ⟨rL1_fr z2 (fun k h => mEn_o (by omega)) r1, fun k h1 h2 => by rw [mEn_o (by omega)]; exact r2 k h1 h2, rC_fr z3 (fun k h1 h2 => mEn_o (by omega)) r3, fun q e9 he9 j hj => ?_, fun i hi => ?_, rS_fr (fun k h1 h2 => mEn_o (by omega)) r6⟩
  · unfold gBook at he9
    rw [List.getElem?_take] at he9
    split at he9
    · rename_i hq
      cases q with
      | zero =>
        cases he9
        have h : j = 0 ∨ j = 1 ∨ j = 2 ∨ j = 3 ∨ j = 4 := by omega
        unfold mEn
        rw [upd_ne_ (by omega)]
        rcases h with rfl | rfl | rfl | rfl | rfl
        · rw [upd_ne_ (by omega), upd_ne_ (by omega), upd_ne_ (by omega), upd_ne_ (by omega)]; exact upd_self_ _ _ _
        · rw [upd_ne_ (by omega), upd_ne_ (by omega), upd_ne_ (by omega)]; exact upd_self_ _ _ _
        · rw [upd_ne_ (by omega), upd_ne_ (by omega)]; exact upd_self_ _ _ _
        · rw [upd_ne_ (by omega)]; exact upd_self_ _ _ _
        · exact upd_self_ _ _ _
      | succ q =>
        rw [List.getElem?_cons_succ] at he9
        unfold mEn
        rw [upd_ne_ (by omega), upd_ne_ (by omega), upd_ne_ (by omega), upd_ne_ (by omega), upd_ne_ (by omega), upd_ne_ (by omega), mE_i (by omega), show 246 + 5 * (q + 1) + j - 5 = 246 + 5 * q + j by omega]
        exact r4 q e9 he9 j hj
    · cases he9
  · by_cases hi9 : i = 9
    · subst hi9; rw [upd_self_]; exact upd_self_ _ _ _
    · rw [mEn_o (by omega), upd_ne_ hi9]; exact r5 i hi
/-! a lane's first egg goes out -/
def mR (f : Nat → Int32) (N n J K : Nat) : Nat → Int32 := fun k =>
  if 48 * N ≤ k ∧ k < 48 * N + 6 * n + 6 then
    (if (k - 48 * N) % 6 < J then (if k < 48 * N + 6 * n then f (k + 6) else f (k - 6 * n))
     else if (k - 48 * N) % 6 = J ∧ k < 48 * N + 6 * K then f (k + 6) else f k)
  else f k
theorem mR_0 (f : Nat → Int32) (N n : Nat) : mR f N n 0 0 = f := by
  funext k
  unfold mR
  split
  · rw [if_neg (by omega), if_neg (by omega)]
  · rfl
theorem mR_own (f : Nat → Int32) (N n J : Nat) (hJ : J < 6) : mR f N n J 0 (48 * N + J) = f (48 * N + J) := by
  unfold mR
  rw [if_pos (by omega), if_neg (by omega), if_neg (by omega)]
theorem mR_rd (f : Nat → Int32) (N n J K : Nat) (hJ : J < 6) (hK : K < n) : mR f N n J K (48 * N + 6 * (K + 1) + J) = f (48 * N + 6 * (K + 1) + J) := by
  unfold mR
  rw [if_pos (by omega), if_neg (by omega), if_neg (by omega)]
theorem mR_s (f : Nat → Int32) (N n J K : Nat) (hJ : J < 6) (hK : K < n) : mR f N n J (K + 1) = upd (mR f N n J K) (48 * N + 6 * K + J) (f (48 * N + 6 * (K + 1) + J)) := by
  funext k
  by_cases hk : k = 48 * N + 6 * K + J
  · subst hk
    rw [upd_self_]
    unfold mR
    rw [if_pos (by omega), if_neg (by omega), if_pos (by omega)]
    congr 1; omega
  · rw [upd_ne_ hk]
    unfold mR
    by_cases h1 : 48 * N ≤ k ∧ k < 48 * N + 6 * n + 6
    · rw [if_pos h1, if_pos h1]
      by_cases h2 : (k - 48 * N) % 6 < J
      · rw [if_pos h2, if_pos h2]
      · rw [if_neg h2, if_neg h2]
        by_cases h3 : (k - 48 * N) % 6 = J ∧ k < 48 * N + 6 * K
        · rw [if_pos (by omega), if_pos h3]
        · rw [if_neg (by omega), if_neg h3]
    · rw [if_neg h1, if_neg h1]
theorem mR_n (f : Nat → Int32) (N n J : Nat) (hJ : J < 6) : mR f N n (J + 1) 0 = upd (mR f N n J n) (48 * N + 6 * n + J) (f (48 * N + J)) := by
  funext k
  by_cases hk : k = 48 * N + 6 * n + J
  · subst hk
    rw [upd_self_]
    unfold mR
    rw [if_pos (by omega), if_pos (by omega), if_neg (by omega)]
    congr 1; omega
  · rw [upd_ne_ hk]
    unfold mR
    by_cases h1 : 48 * N ≤ k ∧ k < 48 * N + 6 * n + 6
    · rw [if_pos h1, if_pos h1]
      by_cases h2 : (k - 48 * N) % 6 < J
      · rw [if_pos (by omega), if_pos h2]
      · rw [if_neg h2]
        by_cases h3 : (k - 48 * N) % 6 = J
        · rw [if_pos (by omega), if_pos (by omega), if_pos (by omega)]
        · rw [if_neg (by omega), if_neg (by omega), if_neg (by omega)]
    · rw [if_neg h1, if_neg h1]
theorem mR_o {f : Nat → Int32} {N n k : Nat} (h : ¬ (48 * N ≤ k ∧ k < 48 * N + 6 * n + 6)) : mR f N n 6 0 k = f k := if_neg h
theorem mR_i {f : Nat → Int32} {N n k : Nat} (h : 48 * N ≤ k ∧ k < 48 * N + 6 * n) : mR f N n 6 0 k = f (k + 6) := by
  unfold mR
  rw [if_pos (by omega), if_pos (by omega), if_pos (by omega)]
theorem mR_l {f : Nat → Int32} {N n k : Nat} (h : 48 * N + 6 * n ≤ k ∧ k < 48 * N + 6 * n + 6) : mR f N n 6 0 k = f (k - 6 * n) := by
  unfold mR
  rw [if_pos (by omega), if_pos (by omega), if_neg (by omega)]
theorem rP_lv {f0 f : Nat → Int32} {N : Nat} {v : Lv} {g : Eg} {t : List Eg} {cs : List Cr} {bs : List Enr} {tt st : Nat → Int32} (hz : rZ N (g :: t) cs bs) (h : rP f0 f N v (g :: t) cs bs tt st) : rP f0 (upd (mR f N t.length 6 0) (192 + 6 * N) (nI t.length)) N v t cs bs tt st ∧ ∀ j, j < 6 → upd (mR f N t.length 6 0) (192 + 6 * N) (nI t.length) (48 * N + 6 * t.length + j) = gEF g j := by
  obtain ⟨r1, r2, r3, r4, r5, r6⟩ := h
  obtain ⟨z1, z2, z3, z4⟩ := hz
  rw [List.length_cons] at z2
  refine ⟨⟨⟨upd_self_ _ _ _, fun i h1 h2 => by rw [upd_ne_ (by omega), mR_o (by omega)]; exact r1.2.1 i h1 h2, fun q g9 hg9 i hi => ?_⟩, fun k h1 h2 => by rw [upd_ne_ (by omega), mR_o (by omega)]; exact r2 k h1 h2, rC_fr z3 (fun k h1 h2 => by rw [upd_ne_ (by omega), mR_o (by omega)]) r3, rB_fr z4 (fun k h1 h2 => by rw [upd_ne_ (by omega), mR_o (by omega)]) r4, fun i hi => by rw [upd_ne_ (by omega), mR_o (by omega)]; exact r5 i hi, rS_fr (fun k h1 h2 => by rw [upd_ne_ (by omega), mR_o (by omega)]) r6⟩, fun j hj => ?_⟩
  · have hq : q < t.length := (List.getElem?_eq_some_iff.mp hg9).1
    rw [upd_ne_ (by omega), mR_i (by omega), show 48 * N + 6 * q + i + 6 = 48 * N + 6 * (q + 1) + i by omega]
    exact r1.2.2 (q + 1) g9 hg9 i hi
  · rw [upd_ne_ (by omega), mR_l (by omega), show 48 * N + 6 * t.length + j - 6 * t.length = 48 * N + 6 * 0 + j by omega]
    exact r1.2.2 0 g rfl j hj

set_option maxHeartbeats 4000000 in
theorem m_Menters {l : Launch} (hl : l.stackTraces = false) (E : eEn) (a : Nat) (o : Mo) (f0 f : Nat → Int32) (N : Nat) (v : Lv) (t : List Eg) (g : Eg) (cs : List Cr) (bs : List Enr) (tt st : Nat → Int32) (hz : rZ N (g :: t) cs bs) (R : rP f0 f N v (g :: t) cs bs tt st) (hgo : gEgOk g = true) (ht9 : tt 9 = nI bs.length) (gr : Int32) : eMet l E yX4_enters (ws_ yX4_enters cX4_enters 4 none) ({ frames := 1, cells := 0, slots := 0, locals := 21 }) [.ref a, .int (nI N), .int gr] [eO a 4 [.ref o.sa, .ref o.pa, .ref o.ha, .ref o.xa, .int o.pn, .int o.ru, .ref o.ta, .int o.ty, .int o.sp, .int o.fr, .int o.re, .int o.ca, .int o.os, .int o.od, .ref o.na], eIA E o.sa 311 f] (fun w Γ => w = none ∧ ∃ f2, Γ = [eMO a o, eIA E o.sa 311 f2] ∧ rP f0 f2 N v (g :: t) cs (gBook (tt 0 + 1, nI N, g.w, gr, gCrk g) bs) (upd tt 9 (nI (gBook (tt 0 + 1, nI N, g.w, gr, gCrk g) bs).length)) st) := by
  refine eStart (cc := cX4_enters) (nL := 4) (L := [some (.ref a), some (.int (nI N)), some (.int gr), none]) hl (by decide) rfl (List.forall_mem_cons.mpr ⟨rfl, (List.forall_mem_cons.mpr ⟨rfl, (List.forall_mem_cons.mpr ⟨rfl, (fun _ h => absurd h List.not_mem_nil)⟩)⟩)⟩) (Nat.le_of_ble_eq_true rfl) ?_
  intro x rs C
  show eZ x E (eQ x E (fun w Γ => w = none ∧ ∃ f2, Γ = [eMO a o, eIA E o.sa 311 f2] ∧ rP f0 f2 N v (g :: t) cs (gBook (tt 0 + 1, nI N, g.w, gr, gCrk g) bs) (upd tt 9 (nI (gBook (tt 0 + 1, nI N, g.w, gr, gCrk g) bs).length)) st) rs) [eO a 4 [.ref o.sa, .ref o.pa, .ref o.ha, .ref o.xa, .int o.pn, .int o.ru, .ref o.ta, .int o.ty, .int o.sp, .int o.fr, .int o.re, .int o.ca, .int o.os, .int o.od, .ref o.na], eIA E o.sa 311 f, rs] 0 [some (.ref a), some (.int (nI N)), some (.int gr), none] [] 0 0
  generalize hQ_ : eQ x E (fun w Γ => w = none ∧ ∃ f2, Γ = [eMO a o, eIA E o.sa 311 f2] ∧ rP f0 f2 N v (g :: t) cs (gBook (tt 0 + 1, nI N, g.w, gr, gCrk g) bs) (upd tt 9 (nI (gBook (tt 0 + 1, nI N, g.w, gr, gCrk g) bs).length)) st) rs = Q_
  obtain ⟨hN4, z2, z3, z4⟩ := hz
  refine z_bipush (v := 49) C dX4_enters_0 (by decide) ?_
  refine z_istore_n (L2 := [some (.ref a), some (.int (nI N)), some (.int gr), some (.int 49)]) C dX4_enters_2 rfl (Nat.le_of_ble_eq_true rfl) rfl ?_
  have F : eZ x E Q_ [eO a 4 [.ref o.sa, .ref o.pa, .ref o.ha, .ref o.xa, .int o.pn, .int o.ru, .ref o.ta, .int o.ty, .int o.sp, .int o.fr, .int o.re, .int o.ca, .int o.os, .int o.od, .ref o.na], eIA E o.sa 311 (mE f 4), rs] 36 [some (.ref a), some (.int (nI N)), some (.int gr), none] [] 0 0 := by
    refine z_aload_n C dX4_enters_36 rfl rfl ?_
    refine z_get eK4 0 0 C dX4_enters_37 rfl rfl q1671 (eSame1 rfl) (by decide) rfl ?_
    refine z_sipush (v := 246) C dX4_enters_40 (by decide) ?_
    refine z_aload_n C dX4_enters_43 rfl rfl ?_
    refine z_get eK4 0 0 C dX4_enters_44 rfl rfl q1671 (eSame1 rfl) (by decide) rfl ?_
    refine z_sipush (v := 296) C dX4_enters_47 (by decide) ?_
    refine z_iald (m := 296) (v := tt 0) 1 C dX4_enters_50 rfl rfl (by omega) (by decide) (by rw [mE_o (by omega)]; exact R.2.2.2.2.1 0 (by decide)) ?_
    refine z_iconst (v := 1) C dX4_enters_51 (by decide) ?_
    refine z_iadd (w := (tt 0) + 1) C dX4_enters_52 rfl ?_
    refine z_iast (m := 246) (Γ2 := [eO a 4 [.ref o.sa, .ref o.pa, .ref o.ha, .ref o.xa, .int o.pn, .int o.ru, .ref o.ta, .int o.ty, .int o.sp, .int o.fr, .int o.re, .int o.ca, .int o.os, .int o.od, .ref o.na], eIA E o.sa 311 (upd (mE f 4) 246 ((tt 0) + 1)), rs]) 1 C dX4_enters_53 rfl rfl (by omega) (by decide) rfl ?_
    refine z_aload_n C dX4_enters_54 rfl rfl ?_
    refine z_get eK4 0 0 C dX4_enters_55 rfl rfl q1671 (eSame1 rfl) (by decide) rfl ?_
    refine z_sipush (v := 247) C dX4_enters_58 (by decide) ?_
    refine z_iload_n C dX4_enters_61 rfl rfl ?_
    refine z_iast (m := 247) (Γ2 := [eO a 4 [.ref o.sa, .ref o.pa, .ref o.ha, .ref o.xa, .int o.pn, .int o.ru, .ref o.ta, .int o.ty, .int o.sp, .int o.fr, .int o.re, .int o.ca, .int o.os, .int o.od, .ref o.na], eIA E o.sa 311 (upd (upd (mE f 4) 246 ((tt 0) + 1)) 247 (nI N)), rs]) 1 C dX4_enters_62 rfl rfl (by omega) (by decide) rfl ?_
    refine z_aload_n C dX4_enters_63 rfl rfl ?_
    refine z_get eK4 0 0 C dX4_enters_64 rfl rfl q1671 (eSame1 rfl) (by decide) rfl ?_
    refine z_sipush (v := 248) C dX4_enters_67 (by decide) ?_
    refine z_aload_n C dX4_enters_70 rfl rfl ?_
    refine z_get eK4 0 0 C dX4_enters_71 rfl rfl q1671 (eSame1 rfl) (by decide) rfl ?_
    refine z_iload_n C dX4_enters_74 rfl rfl ?_
    refine z_iconst (v := 0) C dX4_enters_75 (by decide) ?_
    refine z_callS (As := [.int (nI N), .int 0]) (rest := [.ref o.sa, .int 248, .ref o.sa]) (Δ := [eO a 4 [.ref o.sa, .ref o.pa, .ref o.ha, .ref o.xa, .int o.pn, .int o.ru, .ref o.ta, .int o.ty, .int o.sp, .int o.fr, .int o.re, .int o.ca, .int o.os, .int o.od, .ref o.na], eIA E o.sa 311 (upd (upd (mE f 4) 246 ((tt 0) + 1)) 247 (nI N)), rs]) [] [0, 1, 2] 2 (m_MeggAt hl E N 0) C dX4_enters_76 rfl rfl rfl q1737 q1738 q67 q1739 (by decide +kernel) rfl (ePm 3 rfl (by decide +kernel)) rfl rfl ⟨Nat.le_of_ble_eq_true rfl, Nat.le_of_ble_eq_true rfl⟩ (Nat.le_trans (eSm rfl (eSm rfl (eSm rfl eS0))) (Nat.le_of_ble_eq_true rfl)) ⟨Nat.le_of_ble_eq_true rfl, Nat.le_of_ble_eq_true rfl⟩ (fun v_ Γ_ hp_ => ?_)
    obtain ⟨rfl, rfl⟩ := hp_
    show eZ x E _ [eO a 4 [.ref o.sa, .ref o.pa, .ref o.ha, .ref o.xa, .int o.pn, .int o.ru, .ref o.ta, .int o.ty, .int o.sp, .int o.fr, .int o.re, .int o.ca, .int o.os, .int o.od, .ref o.na], eIA E o.sa 311 (upd (upd (mE f 4) 246 ((tt 0) + 1)) 247 (nI N)), rs] 79 [some (.ref a), some (.int (nI N)), some (.int gr), none] [.int (nI (48 * N + 6 * 0)), .ref o.sa, .int 248, .ref o.sa] 0 0
    refine z_iconst (v := 0) C dX4_enters_79 (by decide) ?_
    refine z_iadd (w := nI (48 * N + 6 * 0)) C dX4_enters_80 (nI_add (48 * N + 6 * 0) 0) ?_
    refine z_iald (m := (48 * N + 6 * 0)) (v := g.w) 1 C dX4_enters_81 rfl rfl (by omega) (by decide) (by rw [upd_ne_ (by omega), upd_ne_ (by omega), mE_o (by omega)]; exact R.1.2.2 0 g rfl 0 (by decide)) ?_
    refine z_iast (m := 248) (Γ2 := [eO a 4 [.ref o.sa, .ref o.pa, .ref o.ha, .ref o.xa, .int o.pn, .int o.ru, .ref o.ta, .int o.ty, .int o.sp, .int o.fr, .int o.re, .int o.ca, .int o.os, .int o.od, .ref o.na], eIA E o.sa 311 (upd (upd (upd (mE f 4) 246 ((tt 0) + 1)) 247 (nI N)) 248 g.w), rs]) 1 C dX4_enters_82 rfl rfl (by omega) (by decide) rfl ?_
    refine z_aload_n C dX4_enters_83 rfl rfl ?_
    refine z_get eK4 0 0 C dX4_enters_84 rfl rfl q1671 (eSame1 rfl) (by decide) rfl ?_
    refine z_sipush (v := 249) C dX4_enters_87 (by decide) ?_
    refine z_iload_n C dX4_enters_90 rfl rfl ?_
    refine z_iast (m := 249) (Γ2 := [eO a 4 [.ref o.sa, .ref o.pa, .ref o.ha, .ref o.xa, .int o.pn, .int o.ru, .ref o.ta, .int o.ty, .int o.sp, .int o.fr, .int o.re, .int o.ca, .int o.os, .int o.od, .ref o.na], eIA E o.sa 311 (upd (upd (upd (upd (mE f 4) 246 ((tt 0) + 1)) 247 (nI N)) 248 g.w) 249 gr), rs]) 1 C dX4_enters_91 rfl rfl (by omega) (by decide) rfl ?_
    refine z_aload_n C dX4_enters_92 rfl rfl ?_
    refine z_get eK4 0 0 C dX4_enters_93 rfl rfl q1671 (eSame1 rfl) (by decide) rfl ?_
    refine z_sipush (v := 250) C dX4_enters_96 (by decide) ?_
    refine z_aload_n C dX4_enters_99 rfl rfl ?_
    refine z_get eK4 0 0 C dX4_enters_100 rfl rfl q1671 (eSame1 rfl) (by decide) rfl ?_
    refine z_iload_n C dX4_enters_103 rfl rfl ?_
    refine z_iconst (v := 0) C dX4_enters_104 (by decide) ?_
    refine z_callS (As := [.int (nI N), .int 0]) (rest := [.ref o.sa, .int 250, .ref o.sa]) (Δ := [eO a 4 [.ref o.sa, .ref o.pa, .ref o.ha, .ref o.xa, .int o.pn, .int o.ru, .ref o.ta, .int o.ty, .int o.sp, .int o.fr, .int o.re, .int o.ca, .int o.os, .int o.od, .ref o.na], eIA E o.sa 311 (upd (upd (upd (upd (mE f 4) 246 ((tt 0) + 1)) 247 (nI N)) 248 g.w) 249 gr), rs]) [] [0, 1, 2] 2 (m_MeggAt hl E N 0) C dX4_enters_105 rfl rfl rfl q1737 q1738 q67 q1739 (by decide +kernel) rfl (ePm 3 rfl (by decide +kernel)) rfl rfl ⟨Nat.le_of_ble_eq_true rfl, Nat.le_of_ble_eq_true rfl⟩ (Nat.le_trans (eSm rfl (eSm rfl (eSm rfl eS0))) (Nat.le_of_ble_eq_true rfl)) ⟨Nat.le_of_ble_eq_true rfl, Nat.le_of_ble_eq_true rfl⟩ (fun v_ Γ_ hp_ => ?_)
    obtain ⟨rfl, rfl⟩ := hp_
    show eZ x E _ [eO a 4 [.ref o.sa, .ref o.pa, .ref o.ha, .ref o.xa, .int o.pn, .int o.ru, .ref o.ta, .int o.ty, .int o.sp, .int o.fr, .int o.re, .int o.ca, .int o.os, .int o.od, .ref o.na], eIA E o.sa 311 (upd (upd (upd (upd (mE f 4) 246 ((tt 0) + 1)) 247 (nI N)) 248 g.w) 249 gr), rs] 108 [some (.ref a), some (.int (nI N)), some (.int gr), none] [.int (nI (48 * N + 6 * 0)), .ref o.sa, .int 250, .ref o.sa] 0 0
    refine z_iconst (v := 4) C dX4_enters_108 (by decide) ?_
    refine z_iadd (w := nI (48 * N + 6 * 0 + 4)) C dX4_enters_109 (nI_add (48 * N + 6 * 0) 4) ?_
    refine z_iald (m := (48 * N + 6 * 0 + 4)) (v := g.c + 1) 1 C dX4_enters_110 rfl rfl (by omega) (by decide) (by rw [upd_ne_ (by omega), upd_ne_ (by omega), upd_ne_ (by omega), upd_ne_ (by omega), mE_o (by omega)]; exact R.1.2.2 0 g rfl 4 (by decide)) ?_
    suffices J_ : eZ x E Q_ [eO a 4 [.ref o.sa, .ref o.pa, .ref o.ha, .ref o.xa, .int o.pn, .int o.ru, .ref o.ta, .int o.ty, .int o.sp, .int o.fr, .int o.re, .int o.ca, .int o.os, .int o.od, .ref o.na], eIA E o.sa 311 (upd (upd (upd (upd (mE f 4) 246 ((tt 0) + 1)) 247 (nI N)) 248 g.w) 249 gr), rs] 119 [some (.ref a), some (.int (nI N)), some (.int gr), none] [.int (eB (gCrk g)), .int 250, .ref o.sa] 0 0 by
      refine z_if_le 118 C dX4_enters_111 (by decide) (fun h_ => ?_) (fun h_ => ?_)
      · refine z_iconst (v := 0) C dX4_enters_118 (by decide) ?_
        refine z_is (w := eB (gCrk g)) (by rw [show gCrk g = false from decide_eq_false (fun h => h ((gCrk_le hgo).mp h_))]; rfl) ?_
        exact J_
      · refine z_iconst (v := 1) C dX4_enters_114 (by decide) ?_
        refine z_goto 119 C dX4_enters_115 (by decide) ?_
        refine z_is (w := eB (gCrk g)) (by rw [show gCrk g = true from decide_eq_true (fun h => h_ ((gCrk_le hgo).mpr h))]; rfl) ?_
        exact J_
    refine z_iast (m := 250) (Γ2 := [eO a 4 [.ref o.sa, .ref o.pa, .ref o.ha, .ref o.xa, .int o.pn, .int o.ru, .ref o.ta, .int o.ty, .int o.sp, .int o.fr, .int o.re, .int o.ca, .int o.os, .int o.od, .ref o.na], eIA E o.sa 311 (upd (upd (upd (upd (upd (mE f 4) 246 ((tt 0) + 1)) 247 (nI N)) 248 g.w) 249 gr) 250 (eB (gCrk g))), rs]) 1 C dX4_enters_119 rfl rfl (by omega) (by decide) rfl ?_
    refine z_aload_n C dX4_enters_120 rfl rfl ?_
    refine z_get eK4 0 0 C dX4_enters_121 rfl rfl q1671 (eSame1 rfl) (by decide) rfl ?_
    refine z_sipush (v := 305) C dX4_enters_124 (by decide) ?_
    refine z_dup2 C dX4_enters_127 rfl rfl ?_
    refine z_iald (m := 305) (v := nI bs.length) 1 C dX4_enters_128 rfl rfl (by omega) (by decide) (by rw [upd_ne_ (by omega), upd_ne_ (by omega), upd_ne_ (by omega), upd_ne_ (by omega), upd_ne_ (by omega), mE_o (by omega)]; exact (R.2.2.2.2.1 9 (by decide)).trans ht9) ?_
    refine z_aload_n C dX4_enters_129 rfl rfl ?_
    refine z_get eK4 0 0 C dX4_enters_130 rfl rfl q1671 (eSame1 rfl) (by decide) rfl ?_
    refine z_sipush (v := 305) C dX4_enters_133 (by decide) ?_
    refine z_iald (m := 305) (v := nI bs.length) 1 C dX4_enters_136 rfl rfl (by omega) (by decide) (by rw [upd_ne_ (by omega), upd_ne_ (by omega), upd_ne_ (by omega), upd_ne_ (by omega), upd_ne_ (by omega), mE_o (by omega)]; exact (R.2.2.2.2.1 9 (by decide)).trans ht9) ?_
    refine z_bipush (v := 10) C dX4_enters_137 (by decide) ?_
    suffices J_ : eZ x E Q_ [eO a 4 [.ref o.sa, .ref o.pa, .ref o.ha, .ref o.xa, .int o.pn, .int o.ru, .ref o.ta, .int o.ty, .int o.sp, .int o.fr, .int o.re, .int o.ca, .int o.os, .int o.od, .ref o.na], eIA E o.sa 311 (upd (upd (upd (upd (upd (mE f 4) 246 ((tt 0) + 1)) 247 (nI N)) 248 g.w) 249 gr) 250 (eB (gCrk g))), rs] 147 [some (.ref a), some (.int (nI N)), some (.int gr), none] [.int (if nI bs.length < 10 then 1 else 0), .int (nI bs.length), .int 305, .ref o.sa] 0 0 by
      refine z_icmp_ge 146 C dX4_enters_139 (by decide) (fun h_ => ?_) (fun h_ => ?_)
      · refine z_iconst (v := 0) C dX4_enters_146 (by decide) ?_
        refine z_is (w := if nI bs.length < 10 then 1 else 0) (if_neg (Int32.not_lt.mpr h_)).symm ?_
        exact J_
      · refine z_iconst (v := 1) C dX4_enters_142 (by decide) ?_
        refine z_goto 147 C dX4_enters_143 (by decide) ?_
        refine z_is (w := if nI bs.length < 10 then 1 else 0) (if_pos (Int32.not_le.mp h_)).symm ?_
        exact J_
    refine z_iadd (w := nI (gBook (tt 0 + 1, nI N, g.w, gr, gCrk g) bs).length) C dX4_enters_147 (gBk_len bs _ z4) ?_
    refine z_iast (m := 305) (Γ2 := [eO a 4 [.ref o.sa, .ref o.pa, .ref o.ha, .ref o.xa, .int o.pn, .int o.ru, .ref o.ta, .int o.ty, .int o.sp, .int o.fr, .int o.re, .int o.ca, .int o.os, .int o.od, .ref o.na], eIA E o.sa 311 (upd (upd (upd (upd (upd (upd (mE f 4) 246 ((tt 0) + 1)) 247 (nI N)) 248 g.w) 249 gr) 250 (eB (gCrk g))) 305 (nI (gBook (tt 0 + 1, nI N, g.w, gr, gCrk g) bs).length)), rs]) 1 C dX4_enters_148 rfl rfl (by omega) (by decide) rfl ?_
    subst hQ_
    exact z_vret (Γ := [eO a 4 [.ref o.sa, .ref o.pa, .ref o.ha, .ref o.xa, .int o.pn, .int o.ru, .ref o.ta, .int o.ty, .int o.sp, .int o.fr, .int o.re, .int o.ca, .int o.os, .int o.od, .ref o.na], eIA E o.sa 311 (upd (upd (upd (upd (upd (upd (mE f 4) 246 ((tt 0) + 1)) 247 (nI N)) 248 g.w) 249 gr) 250 (eB (gCrk g))) 305 (nI (gBook (tt 0 + 1, nI N, g.w, gr, gCrk g) bs).length))]) C dX4_enters_149 rfl (Nat.le_of_ble_eq_true rfl) (Nat.le_of_ble_eq_true rfl) ⟨rfl, _, rfl, rP_en (tt 0 + 1, nI N, g.w, gr, gCrk g) ⟨hN4, z2, z3, z4⟩ R⟩
  have K : ∀ d : Nat, d ≤ 45 → eZ x E Q_ [eO a 4 [.ref o.sa, .ref o.pa, .ref o.ha, .ref o.xa, .int o.pn, .int o.ru, .ref o.ta, .int o.ty, .int o.sp, .int o.fr, .int o.re, .int o.ca, .int o.os, .int o.od, .ref o.na], eIA E o.sa 311 (mE f (d + 4)), rs] 3 [some (.ref a), some (.int (nI N)), some (.int gr), some (.int (nI (d + 4)))] [] 0 0 := by
    intro d
    induction d with
    | zero =>
        intro _
        refine z_iload_n C dX4_enters_3 rfl rfl ?_
        refine z_iconst (v := 5) C dX4_enters_4 (by decide) ?_
        refine z_icmp_lt 36 C dX4_enters_5 (by decide) (fun h_ => ?_) (fun h_ => absurd h_ (absurd (by decide) h_))
        refine z_forget (L' := [some (.ref a), some (.int (nI N)), some (.int gr), none]) ⟨Or.inr rfl, Or.inr rfl, Or.inr rfl, Or.inl rfl, trivial⟩ ?_
        exact F
    | succ d ih =>
        intro hd
        refine z_iload_n C dX4_enters_3 rfl rfl ?_
        refine z_iconst (v := 5) C dX4_enters_4 (by decide) ?_
        refine z_icmp_lt 36 C dX4_enters_5 (by decide) (fun h_ => absurd h_ (fun h9 => absurd h9 (Int32.not_lt.mpr (nI_le (a := 5) (b := d + 1 + 4) (by omega) (by omega))))) (fun h_ => ?_)
        refine z_aload_n C dX4_enters_8 rfl rfl ?_
        refine z_get eK4 0 0 C dX4_enters_9 rfl rfl q1671 (eSame1 rfl) (by decide) rfl ?_
        refine z_sipush (v := 246) C dX4_enters_12 (by decide) ?_
        refine z_iload_n C dX4_enters_15 rfl rfl ?_
        refine z_iadd (w := nI (246 + (d + 1 + 4))) C dX4_enters_16 (nI_add 246 (d + 1 + 4)) ?_
        refine z_aload_n C dX4_enters_17 rfl rfl ?_
        refine z_get eK4 0 0 C dX4_enters_18 rfl rfl q1671 (eSame1 rfl) (by decide) rfl ?_
        refine z_sipush (v := 246) C dX4_enters_21 (by decide) ?_
        refine z_iload_n C dX4_enters_24 rfl rfl ?_
        refine z_iadd (w := nI (246 + (d + 1 + 4))) C dX4_enters_25 (nI_add 246 (d + 1 + 4)) ?_
        refine z_iconst (v := 5) C dX4_enters_26 (by decide) ?_
        refine z_isub (w := nI (241 + (d + 1 + 4))) C dX4_enters_27 (by rw [show 246 + (d + 1 + 4) = 241 + (d + 1 + 4) + 5 by omega]; exact nI_m5 _) ?_
        refine z_iald (m := (241 + (d + 1 + 4))) (v := (mE f (d + 1 + 4)) (241 + (d + 1 + 4))) 1 C dX4_enters_28 rfl rfl (by omega) (by decide) rfl ?_
        refine z_iast (m := (246 + (d + 1 + 4))) (Γ2 := [eO a 4 [.ref o.sa, .ref o.pa, .ref o.ha, .ref o.xa, .int o.pn, .int o.ru, .ref o.ta, .int o.ty, .int o.sp, .int o.fr, .int o.re, .int o.ca, .int o.os, .int o.od, .ref o.na], eIA E o.sa 311 (mE f (d + 4)), rs]) 1 C dX4_enters_29 rfl rfl (by omega) (by decide) (by rw [mE_s f d (by omega)]; rfl) ?_
        refine z_iinc (v := nI (d + 4)) (L2 := [some (.ref a), some (.int (nI N)), some (.int gr), some (.int (nI (d + 4)))]) C dX4_enters_30 rfl (nI_m1 (d + 4)) rfl ?_
        refine z_goto 3 C dX4_enters_33 (by decide) ?_
        exact ih (by omega)
  refine z_go (Γ' := [eO a 4 [.ref o.sa, .ref o.pa, .ref o.ha, .ref o.xa, .int o.pn, .int o.ru, .ref o.ta, .int o.ty, .int o.sp, .int o.fr, .int o.re, .int o.ca, .int o.os, .int o.od, .ref o.na], eIA E o.sa 311 (mE f (45 + 4)), rs]) (by rw [mE_0]) ?_
  exact K 45 (Nat.le_refl _)

set_option maxHeartbeats 4000000 in
theorem m_Mleaves {l : Launch} (hl : l.stackTraces = false) (E : eEn) (a : Nat) (o : Mo) (f0 f : Nat → Int32) (N : Nat) (v : Lv) (t : List Eg) (g : Eg) (cs : List Cr) (bs : List Enr) (tt st : Nat → Int32) (hz : rZ N (g :: t) cs bs) (R : rP f0 f N v (g :: t) cs bs tt st)  : eMet l E yX4_leaves (ws_ yX4_leaves cX4_leaves 6 none) ({ frames := 2, cells := 0, slots := 0, locals := 41 }) [.ref a, .int (nI N)] [eO a 4 [.ref o.sa, .ref o.pa, .ref o.ha, .ref o.xa, .int o.pn, .int o.ru, .ref o.ta, .int o.ty, .int o.sp, .int o.fr, .int o.re, .int o.ca, .int o.os, .int o.od, .ref o.na], eIA E o.sa 311 f] (fun w Γ => w = none ∧ ∃ f2, Γ = [eMO a o, eIA E o.sa 311 f2] ∧ rP f0 f2 N v t cs bs tt st ∧ ∀ j, j < 6 → f2 (48 * N + 6 * t.length + j) = gEF g j) := by
  refine eStart (cc := cX4_leaves) (nL := 6) (L := [some (.ref a), some (.int (nI N)), none, none, none, none]) hl (by decide) rfl (List.forall_mem_cons.mpr ⟨rfl, (List.forall_mem_cons.mpr ⟨rfl, (fun _ h => absurd h List.not_mem_nil)⟩)⟩) (Nat.le_of_ble_eq_true rfl) ?_
  intro x rs C
  show eZ x E (eQ x E (fun w Γ => w = none ∧ ∃ f2, Γ = [eMO a o, eIA E o.sa 311 f2] ∧ rP f0 f2 N v t cs bs tt st ∧ ∀ j, j < 6 → f2 (48 * N + 6 * t.length + j) = gEF g j) rs) [eO a 4 [.ref o.sa, .ref o.pa, .ref o.ha, .ref o.xa, .int o.pn, .int o.ru, .ref o.ta, .int o.ty, .int o.sp, .int o.fr, .int o.re, .int o.ca, .int o.os, .int o.od, .ref o.na], eIA E o.sa 311 f, rs] 0 [some (.ref a), some (.int (nI N)), none, none, none, none] [] 0 0
  generalize hQ_ : eQ x E (fun w Γ => w = none ∧ ∃ f2, Γ = [eMO a o, eIA E o.sa 311 f2] ∧ rP f0 f2 N v t cs bs tt st ∧ ∀ j, j < 6 → f2 (48 * N + 6 * t.length + j) = gEF g j) rs = Q_
  obtain ⟨hN4, z2, z3, z4⟩ := hz
  have z2t : t.length + 1 ≤ 8 := z2
  refine z_aload_n C dX4_leaves_0 rfl rfl ?_
  refine z_iload_n C dX4_leaves_1 rfl rfl ?_
  refine z_callV (r := (RX4, TX4, 15)) (As := [.int (nI N)]) (rest := []) (Δ := [rs]) [0, 1] [2] 1 (m_Mmany hl E a o f N hN4 v (g :: t) R.1) C dX4_leaves_2 rfl rfl (eIn (i := 0) rfl List.mem_cons_self) rfl rfl q1728 q1730 qs27 q67 q1731 (by decide +kernel) rfl (ePm 3 rfl (by decide +kernel)) rfl rfl ⟨Nat.le_of_ble_eq_true rfl, Nat.le_of_ble_eq_true rfl⟩ (Nat.le_trans eS0 (Nat.le_of_ble_eq_true rfl)) ⟨Nat.le_of_ble_eq_true rfl, Nat.le_of_ble_eq_true rfl⟩ (fun v_ Γ_ hp_ => ?_)
  obtain ⟨rfl, rfl⟩ := hp_
  show eZ x E _ [eO a 4 [.ref o.sa, .ref o.pa, .ref o.ha, .ref o.xa, .int o.pn, .int o.ru, .ref o.ta, .int o.ty, .int o.sp, .int o.fr, .int o.re, .int o.ca, .int o.os, .int o.od, .ref o.na], eIA E o.sa 311 f, rs] 5 [some (.ref a), some (.int (nI N)), none, none, none, none] [.int (nI (g :: t).length)] 0 0
  refine z_iconst (v := 1) C dX4_leaves_5 (by decide) ?_
  refine z_isub (w := nI t.length) C dX4_leaves_6 (nI_pred t.length) ?_
  refine z_istore_n (L2 := [some (.ref a), some (.int (nI N)), some (.int (nI t.length)), none, none, none]) C dX4_leaves_7 rfl (Nat.le_of_ble_eq_true rfl) rfl ?_
  refine z_iconst (v := 0) C dX4_leaves_8 (by decide) ?_
  refine z_istore_n (L2 := [some (.ref a), some (.int (nI N)), some (.int (nI t.length)), some (.int 0), none, none]) C dX4_leaves_9 rfl (Nat.le_of_ble_eq_true rfl) rfl ?_
  have K6 : ∀ (d J : Nat), J + d = 6 → eZ x E Q_ [eO a 4 [.ref o.sa, .ref o.pa, .ref o.ha, .ref o.xa, .int o.pn, .int o.ru, .ref o.ta, .int o.ty, .int o.sp, .int o.fr, .int o.re, .int o.ca, .int o.os, .int o.od, .ref o.na], eIA E o.sa 311 (mR f N t.length J 0), rs] 10 [some (.ref a), some (.int (nI N)), some (.int (nI t.length)), some (.int (nI J)), none, none] [] 0 0 := by
    intro d
    induction d with
    | zero =>
        intro J hJ
        obtain rfl : J = 6 := by omega
        refine z_iload_n C dX4_leaves_10 rfl rfl ?_
        refine z_bipush (v := 6) C dX4_leaves_11 (by decide) ?_
        refine z_icmp_ge 93 C dX4_leaves_13 (by decide) (fun h_ => ?_) (fun h_ => absurd h_ (absurd (by decide) h_))
        refine z_aload_n C dX4_leaves_93 rfl rfl ?_
        refine z_get eK4 0 0 C dX4_leaves_94 rfl rfl q1671 (eSame1 rfl) (by decide) rfl ?_
        refine z_iload_n C dX4_leaves_97 rfl rfl ?_
        refine z_callS (As := [.int (nI N)]) (rest := [.ref o.sa]) (Δ := [eO a 4 [.ref o.sa, .ref o.pa, .ref o.ha, .ref o.xa, .int o.pn, .int o.ru, .ref o.ta, .int o.ty, .int o.sp, .int o.fr, .int o.re, .int o.ca, .int o.os, .int o.od, .ref o.na], eIA E o.sa 311 (mR f N t.length 6 0), rs]) [] [0, 1, 2] 1 (m_MlaneAt hl E N) C dX4_leaves_98 rfl rfl rfl q1668 q1669 q67 q1670 (by decide +kernel) rfl (ePm 3 rfl (by decide +kernel)) rfl rfl ⟨Nat.le_of_ble_eq_true rfl, Nat.le_of_ble_eq_true rfl⟩ (Nat.le_trans (eSm rfl eS0) (Nat.le_of_ble_eq_true rfl)) ⟨Nat.le_of_ble_eq_true rfl, Nat.le_of_ble_eq_true rfl⟩ (fun v_ Γ_ hp_ => ?_)
        obtain ⟨rfl, rfl⟩ := hp_
        show eZ x E _ [eO a 4 [.ref o.sa, .ref o.pa, .ref o.ha, .ref o.xa, .int o.pn, .int o.ru, .ref o.ta, .int o.ty, .int o.sp, .int o.fr, .int o.re, .int o.ca, .int o.os, .int o.od, .ref o.na], eIA E o.sa 311 (mR f N t.length 6 0), rs] 101 [some (.ref a), some (.int (nI N)), some (.int (nI t.length)), some (.int (nI 6)), none, none] [.int (nI (192 + 6 * N)), .ref o.sa] 0 0
        refine z_iconst (v := 0) C dX4_leaves_101 (by decide) ?_
        refine z_iadd (w := nI (192 + 6 * N)) C dX4_leaves_102 (nI_add (192 + 6 * N) 0) ?_
        refine z_dup2 C dX4_leaves_103 rfl rfl ?_
        refine z_iald (m := (192 + 6 * N)) (v := nI (t.length + 1)) 1 C dX4_leaves_104 rfl rfl (by omega) (by decide) (by rw [mR_o (by omega)]; exact R.1.1) ?_
        refine z_iconst (v := 1) C dX4_leaves_105 (by decide) ?_
        refine z_isub (w := nI t.length) C dX4_leaves_106 (nI_pred t.length) ?_
        refine z_iast (m := (192 + 6 * N)) (Γ2 := [eO a 4 [.ref o.sa, .ref o.pa, .ref o.ha, .ref o.xa, .int o.pn, .int o.ru, .ref o.ta, .int o.ty, .int o.sp, .int o.fr, .int o.re, .int o.ca, .int o.os, .int o.od, .ref o.na], eIA E o.sa 311 (upd (mR f N t.length 6 0) (192 + 6 * N) (nI t.length)), rs]) 1 C dX4_leaves_107 rfl rfl (by omega) (by decide) rfl ?_
        subst hQ_
        exact z_vret (Γ := [eO a 4 [.ref o.sa, .ref o.pa, .ref o.ha, .ref o.xa, .int o.pn, .int o.ru, .ref o.ta, .int o.ty, .int o.sp, .int o.fr, .int o.re, .int o.ca, .int o.os, .int o.od, .ref o.na], eIA E o.sa 311 (upd (mR f N t.length 6 0) (192 + 6 * N) (nI t.length))]) C dX4_leaves_108 rfl (Nat.le_of_ble_eq_true rfl) (Nat.le_of_ble_eq_true rfl) ⟨rfl, _, rfl, rP_lv ⟨hN4, z2, z3, z4⟩ R⟩
    | succ d ih =>
        intro J hJ
        refine z_iload_n C dX4_leaves_10 rfl rfl ?_
        refine z_bipush (v := 6) C dX4_leaves_11 (by decide) ?_
        refine z_icmp_ge 93 C dX4_leaves_13 (by decide) (fun h_ => absurd h_ (nI_ge (a := J) (b := 6) (by omega) (by decide))) (fun h_ => ?_)
        refine z_aload_n C dX4_leaves_16 rfl rfl ?_
        refine z_get eK4 0 0 C dX4_leaves_17 rfl rfl q1671 (eSame1 rfl) (by decide) rfl ?_
        refine z_iload_n C dX4_leaves_20 rfl rfl ?_
        refine z_iconst (v := 0) C dX4_leaves_21 (by decide) ?_
        refine z_callS (As := [.int (nI N), .int 0]) (rest := [.ref o.sa]) (Δ := [eO a 4 [.ref o.sa, .ref o.pa, .ref o.ha, .ref o.xa, .int o.pn, .int o.ru, .ref o.ta, .int o.ty, .int o.sp, .int o.fr, .int o.re, .int o.ca, .int o.os, .int o.od, .ref o.na], eIA E o.sa 311 (mR f N t.length J 0), rs]) [] [0, 1, 2] 2 (m_MeggAt hl E N 0) C dX4_leaves_22 rfl rfl rfl q1737 q1738 q67 q1739 (by decide +kernel) rfl (ePm 3 rfl (by decide +kernel)) rfl rfl ⟨Nat.le_of_ble_eq_true rfl, Nat.le_of_ble_eq_true rfl⟩ (Nat.le_trans (eSm rfl eS0) (Nat.le_of_ble_eq_true rfl)) ⟨Nat.le_of_ble_eq_true rfl, Nat.le_of_ble_eq_true rfl⟩ (fun v_ Γ_ hp_ => ?_)
        obtain ⟨rfl, rfl⟩ := hp_
        show eZ x E _ [eO a 4 [.ref o.sa, .ref o.pa, .ref o.ha, .ref o.xa, .int o.pn, .int o.ru, .ref o.ta, .int o.ty, .int o.sp, .int o.fr, .int o.re, .int o.ca, .int o.os, .int o.od, .ref o.na], eIA E o.sa 311 (mR f N t.length J 0), rs] 25 [some (.ref a), some (.int (nI N)), some (.int (nI t.length)), some (.int (nI J)), none, none] [.int (nI (48 * N + 6 * 0)), .ref o.sa] 0 0
        refine z_iload_n C dX4_leaves_25 rfl rfl ?_
        refine z_iadd (w := nI (48 * N + 6 * 0 + J)) C dX4_leaves_26 (nI_add (48 * N + 6 * 0) J) ?_
        refine z_iald (m := (48 * N + 6 * 0 + J)) (v := f (48 * N + J)) 1 C dX4_leaves_27 rfl rfl (by omega) (by decide) (mR_own f N t.length J (by omega)) ?_
        refine z_istore (L2 := [some (.ref a), some (.int (nI N)), some (.int (nI t.length)), some (.int (nI J)), some (.int (f (48 * N + J))), none]) C dX4_leaves_28 (Nat.le_of_ble_eq_true rfl) rfl ?_
        refine z_iconst (v := 0) C dX4_leaves_30 (by decide) ?_
        refine z_istore (L2 := [some (.ref a), some (.int (nI N)), some (.int (nI t.length)), some (.int (nI J)), some (.int (f (48 * N + J))), some (.int 0)]) C dX4_leaves_31 (Nat.le_of_ble_eq_true rfl) rfl ?_
        have K8 : ∀ (c K : Nat), K + c = t.length → eZ x E Q_ [eO a 4 [.ref o.sa, .ref o.pa, .ref o.ha, .ref o.xa, .int o.pn, .int o.ru, .ref o.ta, .int o.ty, .int o.sp, .int o.fr, .int o.re, .int o.ca, .int o.os, .int o.od, .ref o.na], eIA E o.sa 311 (mR f N t.length J K), rs] 33 [some (.ref a), some (.int (nI N)), some (.int (nI t.length)), some (.int (nI J)), some (.int (f (48 * N + J))), some (.int (nI K))] [] 0 0 := by
          intro c
          induction c with
          | zero =>
              intro K hK
              obtain rfl : K = t.length := by omega
              refine z_iload C dX4_leaves_33 rfl ?_
              refine z_iload_n C dX4_leaves_35 rfl rfl ?_
              refine z_icmp_ge 73 C dX4_leaves_36 (by decide) (fun h_ => ?_) (fun h_ => absurd h_ (absurd (Int32.le_refl _) h_))
              refine z_aload_n C dX4_leaves_73 rfl rfl ?_
              refine z_get eK4 0 0 C dX4_leaves_74 rfl rfl q1671 (eSame1 rfl) (by decide) rfl ?_
              refine z_iload_n C dX4_leaves_77 rfl rfl ?_
              refine z_iload_n C dX4_leaves_78 rfl rfl ?_
              refine z_callS (As := [.int (nI N), .int (nI t.length)]) (rest := [.ref o.sa]) (Δ := [eO a 4 [.ref o.sa, .ref o.pa, .ref o.ha, .ref o.xa, .int o.pn, .int o.ru, .ref o.ta, .int o.ty, .int o.sp, .int o.fr, .int o.re, .int o.ca, .int o.os, .int o.od, .ref o.na], eIA E o.sa 311 (mR f N t.length J t.length), rs]) [] [0, 1, 2] 2 (m_MeggAt hl E N t.length) C dX4_leaves_79 rfl rfl rfl q1737 q1738 q67 q1739 (by decide +kernel) rfl (ePm 3 rfl (by decide +kernel)) rfl rfl ⟨Nat.le_of_ble_eq_true rfl, Nat.le_of_ble_eq_true rfl⟩ (Nat.le_trans (eSm rfl eS0) (Nat.le_of_ble_eq_true rfl)) ⟨Nat.le_of_ble_eq_true rfl, Nat.le_of_ble_eq_true rfl⟩ (fun v_ Γ_ hp_ => ?_)
              obtain ⟨rfl, rfl⟩ := hp_
              show eZ x E _ [eO a 4 [.ref o.sa, .ref o.pa, .ref o.ha, .ref o.xa, .int o.pn, .int o.ru, .ref o.ta, .int o.ty, .int o.sp, .int o.fr, .int o.re, .int o.ca, .int o.os, .int o.od, .ref o.na], eIA E o.sa 311 (mR f N t.length J t.length), rs] 82 [some (.ref a), some (.int (nI N)), some (.int (nI t.length)), some (.int (nI J)), some (.int (f (48 * N + J))), some (.int (nI t.length))] [.int (nI (48 * N + 6 * t.length)), .ref o.sa] 0 0
              refine z_iload_n C dX4_leaves_82 rfl rfl ?_
              refine z_iadd (w := nI (48 * N + 6 * t.length + J)) C dX4_leaves_83 (nI_add (48 * N + 6 * t.length) J) ?_
              refine z_iload C dX4_leaves_84 rfl ?_
              refine z_iast (m := (48 * N + 6 * t.length + J)) (Γ2 := [eO a 4 [.ref o.sa, .ref o.pa, .ref o.ha, .ref o.xa, .int o.pn, .int o.ru, .ref o.ta, .int o.ty, .int o.sp, .int o.fr, .int o.re, .int o.ca, .int o.os, .int o.od, .ref o.na], eIA E o.sa 311 (mR f N t.length (J + 1) 0), rs]) 1 C dX4_leaves_86 rfl rfl (by omega) (by decide) (by rw [mR_n f N t.length J (by omega)]; rfl) ?_
              refine z_iinc (v := nI (J + 1)) (L2 := [some (.ref a), some (.int (nI N)), some (.int (nI t.length)), some (.int (nI (J + 1))), some (.int (f (48 * N + J))), some (.int (nI t.length))]) C dX4_leaves_87 rfl (nI_1 J) rfl ?_
              refine z_goto 10 C dX4_leaves_90 (by decide) ?_
              refine z_forget (L' := [some (.ref a), some (.int (nI N)), some (.int (nI t.length)), some (.int (nI (J + 1))), none, none]) ⟨Or.inr rfl, Or.inr rfl, Or.inr rfl, Or.inr rfl, Or.inl rfl, Or.inl rfl, trivial⟩ ?_
              exact ih (J + 1) (by omega)
          | succ c ihc =>
              intro K hK
              refine z_iload C dX4_leaves_33 rfl ?_
              refine z_iload_n C dX4_leaves_35 rfl rfl ?_
              refine z_icmp_ge 73 C dX4_leaves_36 (by decide) (fun h_ => absurd h_ (nI_ge (a := K) (b := t.length) (by omega) (by omega))) (fun h_ => ?_)
              refine z_aload_n C dX4_leaves_39 rfl rfl ?_
              refine z_get eK4 0 0 C dX4_leaves_40 rfl rfl q1671 (eSame1 rfl) (by decide) rfl ?_
              refine z_iload_n C dX4_leaves_43 rfl rfl ?_
              refine z_iload C dX4_leaves_44 rfl ?_
              refine z_callS (As := [.int (nI N), .int (nI K)]) (rest := [.ref o.sa]) (Δ := [eO a 4 [.ref o.sa, .ref o.pa, .ref o.ha, .ref o.xa, .int o.pn, .int o.ru, .ref o.ta, .int o.ty, .int o.sp, .int o.fr, .int o.re, .int o.ca, .int o.os, .int o.od, .ref o.na], eIA E o.sa 311 (mR f N t.length J K), rs]) [] [0, 1, 2] 2 (m_MeggAt hl E N K) C dX4_leaves_46 rfl rfl rfl q1737 q1738 q67 q1739 (by decide +kernel) rfl (ePm 3 rfl (by decide +kernel)) rfl rfl ⟨Nat.le_of_ble_eq_true rfl, Nat.le_of_ble_eq_true rfl⟩ (Nat.le_trans (eSm rfl eS0) (Nat.le_of_ble_eq_true rfl)) ⟨Nat.le_of_ble_eq_true rfl, Nat.le_of_ble_eq_true rfl⟩ (fun v_ Γ_ hp_ => ?_)
              obtain ⟨rfl, rfl⟩ := hp_
              show eZ x E _ [eO a 4 [.ref o.sa, .ref o.pa, .ref o.ha, .ref o.xa, .int o.pn, .int o.ru, .ref o.ta, .int o.ty, .int o.sp, .int o.fr, .int o.re, .int o.ca, .int o.os, .int o.od, .ref o.na], eIA E o.sa 311 (mR f N t.length J K), rs] 49 [some (.ref a), some (.int (nI N)), some (.int (nI t.length)), some (.int (nI J)), some (.int (f (48 * N + J))), some (.int (nI K))] [.int (nI (48 * N + 6 * K)), .ref o.sa] 0 0
              refine z_iload_n C dX4_leaves_49 rfl rfl ?_
              refine z_iadd (w := nI (48 * N + 6 * K + J)) C dX4_leaves_50 (nI_add (48 * N + 6 * K) J) ?_
              refine z_aload_n C dX4_leaves_51 rfl rfl ?_
              refine z_get eK4 0 0 C dX4_leaves_52 rfl rfl q1671 (eSame1 rfl) (by decide) rfl ?_
              refine z_iload_n C dX4_leaves_55 rfl rfl ?_
              refine z_iload C dX4_leaves_56 rfl ?_
              refine z_iconst (v := 1) C dX4_leaves_58 (by decide) ?_
              refine z_iadd (w := nI (K + 1)) C dX4_leaves_59 (nI_add K 1) ?_
              refine z_callS (As := [.int (nI N), .int (nI (K + 1))]) (rest := [.ref o.sa, .int (nI (48 * N + 6 * K + J)), .ref o.sa]) (Δ := [eO a 4 [.ref o.sa, .ref o.pa, .ref o.ha, .ref o.xa, .int o.pn, .int o.ru, .ref o.ta, .int o.ty, .int o.sp, .int o.fr, .int o.re, .int o.ca, .int o.os, .int o.od, .ref o.na], eIA E o.sa 311 (mR f N t.length J K), rs]) [] [0, 1, 2] 2 (m_MeggAt hl E N (K + 1)) C dX4_leaves_60 rfl rfl rfl q1737 q1738 q67 q1739 (by decide +kernel) rfl (ePm 3 rfl (by decide +kernel)) rfl rfl ⟨Nat.le_of_ble_eq_true rfl, Nat.le_of_ble_eq_true rfl⟩ (Nat.le_trans (eSm rfl (eSm rfl (eSm rfl eS0))) (Nat.le_of_ble_eq_true rfl)) ⟨Nat.le_of_ble_eq_true rfl, Nat.le_of_ble_eq_true rfl⟩ (fun v_ Γ_ hp_ => ?_)
              obtain ⟨rfl, rfl⟩ := hp_
              show eZ x E _ [eO a 4 [.ref o.sa, .ref o.pa, .ref o.ha, .ref o.xa, .int o.pn, .int o.ru, .ref o.ta, .int o.ty, .int o.sp, .int o.fr, .int o.re, .int o.ca, .int o.os, .int o.od, .ref o.na], eIA E o.sa 311 (mR f N t.length J K), rs] 63 [some (.ref a), some (.int (nI N)), some (.int (nI t.length)), some (.int (nI J)), some (.int (f (48 * N + J))), some (.int (nI K))] [.int (nI (48 * N + 6 * (K + 1))), .ref o.sa, .int (nI (48 * N + 6 * K + J)), .ref o.sa] 0 0
              refine z_iload_n C dX4_leaves_63 rfl rfl ?_
              refine z_iadd (w := nI (48 * N + 6 * (K + 1) + J)) C dX4_leaves_64 (nI_add (48 * N + 6 * (K + 1)) J) ?_
              refine z_iald (m := (48 * N + 6 * (K + 1) + J)) (v := f (48 * N + 6 * (K + 1) + J)) 1 C dX4_leaves_65 rfl rfl (by omega) (by decide) (mR_rd f N t.length J K (by omega) (by omega)) ?_
              refine z_iast (m := (48 * N + 6 * K + J)) (Γ2 := [eO a 4 [.ref o.sa, .ref o.pa, .ref o.ha, .ref o.xa, .int o.pn, .int o.ru, .ref o.ta, .int o.ty, .int o.sp, .int o.fr, .int o.re, .int o.ca, .int o.os, .int o.od, .ref o.na], eIA E o.sa 311 (mR f N t.length J (K + 1)), rs]) 1 C dX4_leaves_66 rfl rfl (by omega) (by decide) (by rw [mR_s f N t.length J K (by omega) (by omega)]; rfl) ?_
              refine z_iinc (v := nI (K + 1)) (L2 := [some (.ref a), some (.int (nI N)), some (.int (nI t.length)), some (.int (nI J)), some (.int (f (48 * N + J))), some (.int (nI (K + 1)))]) C dX4_leaves_67 rfl (nI_1 K) rfl ?_
              refine z_goto 33 C dX4_leaves_70 (by decide) ?_
              exact ihc (K + 1) (by omega)
        exact K8 t.length 0 (by omega)
  refine z_go (Γ' := [eO a 4 [.ref o.sa, .ref o.pa, .ref o.ha, .ref o.xa, .int o.pn, .int o.ru, .ref o.ta, .int o.ty, .int o.sp, .int o.fr, .int o.re, .int o.ca, .int o.os, .int o.od, .ref o.na], eIA E o.sa 311 (mR f N t.length 0 0), rs]) (by rw [mR_0]) ?_
  exact K6 6 0 rfl
