/-! ===== mean ===== -/
set_option maxRecDepth 100000
def gBitsF (w m : Int32) : UInt32 := FP.fdiv (FP.i2f w) (FP.i2f m)
def gMeanQ (A : Am) : Int32 := if gOfC A 3 = 0 then -1000004 else (gBitsF A.u.wt (gOfC A 3)).toInt32
/-! a quotient of ints by an int other than 0 is no NaN: from the float core's definitions alone -/
def gNice (d : Jvm.FP.Core.Datum) : Prop := match d with
  | .nan => False
  | .inf _ => True
  | .fin _ c q => c < 16777216 ∧ q ≤ 104
theorem gF_p : Jvm.FP.Core.Fmt.p Jvm.FP.Core.b32 = 24 := rfl
theorem gF_t : Jvm.FP.Core.Fmt.tails Jvm.FP.Core.b32 = 8388608 := by decide
theorem gF_e : Jvm.FP.Core.Fmt.exps Jvm.FP.Core.b32 = 256 := by decide
theorem gF_x : Jvm.FP.Core.Fmt.qmax Jvm.FP.Core.b32 = 104 := by decide
theorem gF_n : Jvm.FP.Core.Fmt.qmin Jvm.FP.Core.b32 = -149 := by decide
theorem gNice_bd (s : Bool) (c : Nat) (q : Int) (hc : c < 16777216) : gNice (Jvm.FP.Core.bound Jvm.FP.Core.b32 s c q) := by
  unfold Jvm.FP.Core.bound
  rw [gF_x]
  split
  · exact ⟨hc, by assumption⟩
  · trivial
theorem gNice_se (s : Bool) (c : Nat) (q : Int) : gNice (Jvm.FP.Core.settle Jvm.FP.Core.b32 s c q) := by
  unfold Jvm.FP.Core.settle
  rw [gF_p, gF_t]
  split
  · exact gNice_bd s c q (by omega)
  · exact gNice_bd s _ _ (by decide)
theorem gNice_rr (s : Bool) (n d : Nat) (e : Int) : gNice (Jvm.FP.Core.roundRatio Jvm.FP.Core.b32 s n d e) := by
  unfold Jvm.FP.Core.roundRatio
  split
  · exact ⟨by decide, by rw [gF_n]; decide⟩
  · exact gNice_se _ _ _
theorem gAsm (s : Bool) (e t : Nat) (he : e < 256) (ht : t < 8388608) : Jvm.FP.Core.assemble Jvm.FP.Core.b32 s e t < 4294967296 ∧ Jvm.FP.Core.assemble Jvm.FP.Core.b32 s e t % 2147483648 = e * 8388608 + t := by
  unfold Jvm.FP.Core.assemble
  rw [gF_e, gF_t]
  cases s
  · rw [show false.toNat = 0 from rfl]; omega
  · rw [show true.toNat = 1 from rfl]; omega
/-- exponent and tail of what is written -/
theorem gEnc (d : Jvm.FP.Core.Datum) (h : gNice d) : ∃ e t : Nat, Jvm.FP.Core.encode Jvm.FP.Core.b32 d < 4294967296 ∧ Jvm.FP.Core.encode Jvm.FP.Core.b32 d % 2147483648 = e * 8388608 + t ∧ t < 8388608 ∧ e < 256 ∧ (e = 255 → t = 0) ∧ (∀ s c q, d = .fin s c q → c ≠ 0 → e ≠ 255 ∧ (e ≠ 0 ∨ t ≠ 0)) := by
  cases d with
  | nan => exact h.elim
  | inf s =>
    have h9 := gAsm s 255 0 (by decide) (by decide)
    refine ⟨255, 0, ?_, ?_, by decide, by decide, fun _ => rfl, fun _ _ _ h => by cases h⟩
    · show Jvm.FP.Core.assemble Jvm.FP.Core.b32 s (Jvm.FP.Core.Fmt.exps Jvm.FP.Core.b32 - 1) 0 < _; rw [gF_e]; exact h9.1
    · show Jvm.FP.Core.assemble Jvm.FP.Core.b32 s (Jvm.FP.Core.Fmt.exps Jvm.FP.Core.b32 - 1) 0 % _ = _; rw [gF_e]; exact h9.2
  | fin s c q =>
    obtain ⟨hc, hq⟩ := h
    by_cases hlt : c < 8388608
    · have h9 := gAsm s 0 c (by decide) hlt
      have he : Jvm.FP.Core.encode Jvm.FP.Core.b32 (.fin s c q) = Jvm.FP.Core.assemble Jvm.FP.Core.b32 s 0 c := by
        show (if c < Jvm.FP.Core.Fmt.tails Jvm.FP.Core.b32 then _ else _) = _
        rw [gF_t, if_pos hlt]
      rw [he]
      exact ⟨0, c, h9.1, h9.2, hlt, by decide, fun h => by omega, fun s2 c2 q2 h2 h3 => by cases h2; exact ⟨by decide, Or.inr h3⟩⟩
    · have h9 := gAsm s ((q + 149).toNat + 1) (c - 8388608) (by omega) (by omega)
      have he : Jvm.FP.Core.encode Jvm.FP.Core.b32 (.fin s c q) = Jvm.FP.Core.assemble Jvm.FP.Core.b32 s ((q + 149).toNat + 1) (c - 8388608) := by
        show (if c < Jvm.FP.Core.Fmt.tails Jvm.FP.Core.b32 then _ else Jvm.FP.Core.assemble Jvm.FP.Core.b32 s ((q - Jvm.FP.Core.Fmt.qmin Jvm.FP.Core.b32).toNat + 1) (c - Jvm.FP.Core.Fmt.tails Jvm.FP.Core.b32)) = _
        rw [gF_t, gF_n, if_neg hlt]
        rw [show q - -149 = q + 149 by omega]
      rw [he]
      exact ⟨(q + 149).toNat + 1, c - 8388608, h9.1, h9.2, by omega, by omega, fun h => by omega, fun s2 c2 q2 h2 h3 => ⟨by omega, Or.inl (by omega)⟩⟩
theorem gDec (n e t : Nat) (h : n % 2147483648 = e * 8388608 + t) (ht : t < 8388608) (he : e < 256) : Jvm.FP.Core.fieldE Jvm.FP.Core.b32 n = e ∧ Jvm.FP.Core.fieldT Jvm.FP.Core.b32 n = t := by
  unfold Jvm.FP.Core.fieldE Jvm.FP.Core.fieldT
  rw [gF_e, gF_t]
  omega
theorem gDec_nn (n e t : Nat) (h : n % 2147483648 = e * 8388608 + t) (ht : t < 8388608) (he : e < 256) (h5 : e = 255 → t = 0) : Jvm.FP.Core.decode Jvm.FP.Core.b32 n ≠ .nan := by
  obtain ⟨h1, h2⟩ := gDec n e t h ht he
  unfold Jvm.FP.Core.decode
  rw [h1, h2, gF_e]
  split
  · rw [if_pos (h5 (by assumption))]; exact fun h => by cases h
  · split <;> exact fun h => by cases h
theorem gDec_fin (n e t : Nat) (h : n % 2147483648 = e * 8388608 + t) (ht : t < 8388608) (he : e < 255) (h5 : e ≠ 0 ∨ t ≠ 0) : ∃ s c q, Jvm.FP.Core.decode Jvm.FP.Core.b32 n = .fin s c q ∧ c ≠ 0 := by
  obtain ⟨h1, h2⟩ := gDec n e t h ht (by omega)
  unfold Jvm.FP.Core.decode
  rw [h1, h2, gF_e, gF_t, if_neg (by omega)]
  split
  · exact ⟨_, _, _, rfl, by omega⟩
  · exact ⟨_, _, _, rfl, by omega⟩
theorem gOfU (n : Nat) (h : n < 4294967296) : (UInt32.ofNat n).toNat = n := by
  rw [UInt32.toNat_ofNat']; exact Nat.mod_eq_of_lt h
theorem gI2f_nn (w : Int32) : Jvm.FP.Core.decode Jvm.FP.Core.b32 (FP.i2f w).toNat ≠ .nan := by
  obtain ⟨e, t, h1, h2, h3, h4, h5, -⟩ := gEnc (Jvm.FP.Core.round Jvm.FP.Core.b32 (Jvm.FP.Core.ofInt w.toInt)) (gNice_rr _ _ _ _)
  have h9 : (FP.i2f w).toNat = Jvm.FP.Core.encode Jvm.FP.Core.b32 (Jvm.FP.Core.round Jvm.FP.Core.b32 (Jvm.FP.Core.ofInt w.toInt)) := gOfU _ h1
  rw [h9]
  exact gDec_nn _ e t h2 h3 h4 h5
theorem gNear (n d : Nat) (hd : 0 < d) (h : d ≤ n) : 1 ≤ Jvm.FP.Core.nearest n d := by
  have h1 : 1 ≤ n / d := (Nat.one_le_div_iff hd).mpr h
  unfold Jvm.FP.Core.nearest
  split
  · exact h1
  · split
    · omega
    · omega
theorem gRound_nz (s : Bool) (c : Nat) (h0 : c ≠ 0) (h1 : c < 4294967296) : ∃ s2 c2 q2, Jvm.FP.Core.roundRatio Jvm.FP.Core.b32 s c 1 0 = .fin s2 c2 q2 ∧ c2 ≠ 0 := by
  have hk : c.log2 < 32 := (Nat.log2_lt h0).mpr h1
  have hle : 2 ^ c.log2 ≤ c := Nat.log2_self_le h0
  have hld : Jvm.FP.Core.leading c 1 = (c.log2 : Int) := by
    unfold Jvm.FP.Core.leading
    dsimp only
    rw [show Nat.log2 1 = 0 from by decide, if_pos (by
      rw [show ((c.log2 : Int) - ((0 : Nat) : Int)).toNat = c.log2 by omega, show (-((c.log2 : Int) - ((0 : Nat) : Int))).toNat = 0 by omega, Nat.one_mul, Nat.pow_zero, Nat.mul_one]
      exact hle)]
    omega
  have hq : Jvm.FP.Core.quantum Jvm.FP.Core.b32 c 1 0 = (c.log2 : Int) - 23 := by
    unfold Jvm.FP.Core.quantum
    rw [hld, gF_n, gF_p]
    omega
  have hn : 1 ≤ Jvm.FP.Core.nearest (Jvm.FP.Core.unitsNum c 0 ((c.log2 : Int) - 23)) (Jvm.FP.Core.unitsDen 1 0 ((c.log2 : Int) - 23)) := by
    refine gNear _ _ ?_ ?_
    · unfold Jvm.FP.Core.unitsDen; rw [Nat.one_mul]; exact Nat.two_pow_pos _
    · unfold Jvm.FP.Core.unitsDen Jvm.FP.Core.unitsNum
      rw [Nat.one_mul]
      calc 2 ^ ((c.log2 : Int) - 23 - 0).toNat ≤ 2 ^ c.log2 := Nat.pow_le_pow_right (by decide) (by omega)
        _ ≤ c := hle
        _ ≤ c * 2 ^ (0 - ((c.log2 : Int) - 23)).toNat := Nat.le_mul_of_pos_right _ (Nat.two_pow_pos _)
  have hr : Jvm.FP.Core.roundRatio Jvm.FP.Core.b32 s c 1 0 = Jvm.FP.Core.settle Jvm.FP.Core.b32 s (Jvm.FP.Core.nearest (Jvm.FP.Core.unitsNum c 0 ((c.log2 : Int) - 23)) (Jvm.FP.Core.unitsDen 1 0 ((c.log2 : Int) - 23))) ((c.log2 : Int) - 23) := by
    unfold Jvm.FP.Core.roundRatio Jvm.FP.Core.roundAt
    rw [if_neg h0, hq]
  rw [hr]
  unfold Jvm.FP.Core.settle Jvm.FP.Core.bound
  rw [gF_p, gF_t, gF_x]
  split
  · rw [if_pos (by omega)]; exact ⟨_, _, _, rfl, by omega⟩
  · rw [if_pos (by omega)]; exact ⟨_, _, _, rfl, by decide⟩
theorem gI2f_fin (m : Int32) (hm : m ≠ 0) : ∃ s c q, Jvm.FP.Core.decode Jvm.FP.Core.b32 (FP.i2f m).toNat = .fin s c q ∧ c ≠ 0 := by
  have hm0 : m.toInt ≠ 0 := fun h => hm (Int32.toInt.inj (by rw [h]; rfl))
  have hlt := m.toInt_lt
  have hle := m.le_toInt
  obtain ⟨s2, c2, q2, hr, hc2⟩ := gRound_nz (decide (m.toInt < 0)) m.toInt.natAbs (by omega) (by omega)
  have hd : Jvm.FP.Core.round Jvm.FP.Core.b32 (Jvm.FP.Core.ofInt m.toInt) = .fin s2 c2 q2 := hr
  obtain ⟨e, t, h1, h2, h3, h4, h5, h6⟩ := gEnc (Jvm.FP.Core.round Jvm.FP.Core.b32 (Jvm.FP.Core.ofInt m.toInt)) (gNice_rr _ _ _ _)
  have h7 := h6 s2 c2 q2 hd hc2
  have h9 : (FP.i2f m).toNat = Jvm.FP.Core.encode Jvm.FP.Core.b32 (Jvm.FP.Core.round Jvm.FP.Core.b32 (Jvm.FP.Core.ofInt m.toInt)) := gOfU _ h1
  rw [h9]
  exact gDec_fin _ e t h2 h3 (by omega) h7.2
theorem gBitsF_ok (w m : Int32) (h : m ≠ 0) : ∃ e t : Nat, (gBitsF w m).toNat % 2147483648 = e * 8388608 + t ∧ t < 8388608 ∧ e < 256 ∧ (e = 255 → t = 0) := by
  obtain ⟨s, c, q, hy, hc⟩ := gI2f_fin m h
  have hn : gNice (Jvm.FP.Core.quotient Jvm.FP.Core.b32 (Jvm.FP.Core.decode Jvm.FP.Core.b32 (FP.i2f w).toNat) (Jvm.FP.Core.decode Jvm.FP.Core.b32 (FP.i2f m).toNat)) := by
    rw [hy]
    rcases hx : Jvm.FP.Core.decode Jvm.FP.Core.b32 (FP.i2f w).toNat with _ | s2 | ⟨s2, c2, q2⟩
    · exact absurd hx (gI2f_nn w)
    · trivial
    · show gNice (if c = 0 then _ else _)
      rw [if_neg hc]
      exact gNice_rr _ _ _ _
  obtain ⟨e, t, h1, h2, h3, h4, h5, -⟩ := gEnc _ hn
  exact ⟨e, t, by rw [show (gBitsF w m).toNat = _ from gOfU _ h1]; exact h2, h3, h4, h5⟩
theorem gBitsF_n (w m : Int32) (h : m ≠ 0) : vf_n32 (gBitsF w m) := by
  obtain ⟨e, t, h1, h2, h3, h4⟩ := gBitsF_ok w m h
  unfold vf_n32
  rw [UInt32.le_iff_toNat_le, UInt32.toNat_and, show (0x7fffffff : UInt32).toNat = 2 ^ 31 - 1 from rfl, Nat.and_two_pow_sub_one_eq_mod, show (0x7f800000 : UInt32).toNat = 2139095040 from rfl]
  omega
theorem gBitsF_eq (w m : Int32) (h : m ≠ 0) : FP.fcmp (gBitsF w m) (gBitsF w m) = some .eq := by
  obtain ⟨e, t, h1, h2, h3, h4⟩ := gBitsF_ok w m h
  have h9 := gDec_nn _ e t h1 h2 h3 h4
  show Jvm.FP.Core.order (Jvm.FP.Core.decode Jvm.FP.Core.b32 (gBitsF w m).toNat) (Jvm.FP.Core.decode Jvm.FP.Core.b32 (gBitsF w m).toNat) = _
  rcases hx : Jvm.FP.Core.decode Jvm.FP.Core.b32 (gBitsF w m).toNat with _ | s | ⟨s, c, q⟩
  · exact absurd hx h9
  · simp [Jvm.FP.Core.order, compare, compareOfLessAndEq]
  · simp [Jvm.FP.Core.order, compare, compareOfLessAndEq]

set_option maxHeartbeats 4000000 in
theorem m_isNaN {l : Launch} (hl : l.stackTraces = false) (E : eEn) (b : UInt32) (hf : FP.fcmp b b = some .eq) : eMet l E yJ26_isNaN (ws_ yJ26_isNaN cJ26_isNaN 1 (some .boolean)) ({ frames := 0, cells := 0, slots := 0, locals := 0 }) [.float b] [] (fun w Γ => w = some (.int 0) ∧ Γ = []) := by
  refine eStartF (cc := cJ26_isNaN) (nL := 1) (L := [some (.float b)]) hl (by decide +kernel) rfl (List.forall_mem_cons.mpr ⟨rfl, (fun _ h => absurd h List.not_mem_nil)⟩) (Nat.le_of_ble_eq_true rfl) ?_
  intro x rs C
  show eZ x E (eQ x E (fun w Γ => w = some (.int 0) ∧ Γ = []) rs) [rs] 0 [some (.float b)] [] 0 0
  generalize hQ_ : eQ x E (fun w Γ => w = some (.int 0) ∧ Γ = []) rs = Q_
  refine z_fload_n C dJ26_isNaN_0 rfl rfl ?_
  refine z_fload_n C dJ26_isNaN_1 rfl rfl ?_
  refine z_fcmp C dJ26_isNaN_2 ?_
  refine z_is (w := 0) (by rw [hf]; rfl) ?_
  show eZ x E _ [rs] 3 [some (.float b)] [.int 0] 0 0
  refine z_if_eq 10 C dJ26_isNaN_3 (by decide) (fun h1 => ?_) (fun h1 => ?_)
  · refine z_iconst (v := 0) C dJ26_isNaN_10 (by decide) ?_
    subst hQ_
    exact z_ret (Γ := []) C dJ26_isNaN_11 rfl (by decide) (Nat.le_of_ble_eq_true rfl) (Nat.le_of_ble_eq_true rfl) ⟨rfl, rfl⟩
  · exact absurd rfl h1

set_option maxHeartbeats 4000000 in
theorem m_f2ib {l : Launch} (hl : l.stackTraces = false) (E : eEn) (b : UInt32) (hf : FP.fcmp b b = some .eq) : eMet l E yJ26_floatToIntBits (ws_ yJ26_floatToIntBits cJ26_floatToIntBits 1 (some .int)) ({ frames := 1, cells := 0, slots := 0, locals := 30 }) [.float b] [] (fun w Γ => w = some (.int b.toInt32) ∧ Γ = []) := by
  refine eStartF (cc := cJ26_floatToIntBits) (nL := 1) (L := [some (.float b)]) hl (by decide +kernel) rfl (List.forall_mem_cons.mpr ⟨rfl, (fun _ h => absurd h List.not_mem_nil)⟩) (Nat.le_of_ble_eq_true rfl) ?_
  intro x rs C
  show eZ x E (eQ x E (fun w Γ => w = some (.int b.toInt32) ∧ Γ = []) rs) [rs] 0 [some (.float b)] [] 0 0
  generalize hQ_ : eQ x E (fun w Γ => w = some (.int b.toInt32) ∧ Γ = []) rs = Q_
  refine z_fload_n C dJ26_floatToIntBits_0 rfl rfl ?_
  refine z_callS (As := [.float b]) (rest := []) (Δ := [rs]) [] [0] 1 (m_isNaN hl E b hf) C dJ26_floatToIntBits_1 rfl rfl rfl q1439 q1440 q90 q1441 (by decide +kernel) rfl (ePm 1 rfl (by decide +kernel)) rfl rfl ⟨Nat.le_of_ble_eq_true rfl, Nat.le_of_ble_eq_true rfl⟩ (Nat.le_trans eS0 (Nat.le_of_ble_eq_true rfl)) ⟨Nat.le_of_ble_eq_true rfl, Nat.le_of_ble_eq_true rfl⟩ (fun v_ Γ_ hp_ => ?_)
  obtain ⟨rfl, rfl⟩ := hp_
  show eZ x E _ [rs] 4 [some (.float b)] [.int 0] 0 0
  refine z_if_ne 12 C dJ26_floatToIntBits_4 (by decide) (fun h_ => absurd h_ (absurd rfl h_)) (fun h_ => ?_)
  refine z_fload_n C dJ26_floatToIntBits_7 rfl rfl ?_
  refine z_f2i C rfl dJ26_floatToIntBits_8 rfl (by decide) (by decide) ?_
  show eZ x E _ [rs] 11 [some (.float b)] [.int b.toInt32] 0 0
  subst hQ_
  exact z_ret (Γ := []) C dJ26_floatToIntBits_11 rfl rfl (Nat.le_of_ble_eq_true rfl) (Nat.le_of_ble_eq_true rfl) ⟨rfl, rfl⟩

set_option maxHeartbeats 4000000 in
theorem m_meanQ {l : Launch} (hl : l.stackTraces = false) (E : eEn) (s : Sy) (hs : sOk s) : eMet l E yX0_mean (ws_ yX0_mean cX0_mean 2 (some .int)) ({ frames := 4, cells := 1, slots := 4, locals := 77 }) [.ref s.a] [eSys E s] (sQ E s (gMeanQ s.m.abs)) := by
  refine eStart (cc := cX0_mean) (nL := 2) (L := [some (.ref s.a), none]) hl (by decide) rfl (List.forall_mem_cons.mpr ⟨rfl, (fun _ h => absurd h List.not_mem_nil)⟩) (Nat.le_of_ble_eq_true rfl) ?_
  intro x rs C
  show eZ x E (eQ x E (sQ E s (gMeanQ s.m.abs)) rs) [eSys E s, rs] 0 [some (.ref s.a), none] [] 0 0
  generalize hQ_ : eQ x E (sQ E s (gMeanQ s.m.abs)) rs = Q_
  obtain ⟨hs1, hs2, hs3, hs4, hs5, hs6⟩ := hs
  refine z_cut 0 (bs := [eO s.a 0 [.ref s.m.a, .ref s.dq, .ref s.sb], eMac E s.m, eAD E s.dq s.da s.dh (hA s.hs), eMacs E s.hs, eSB E s.sb s.sv s.sN s.ml s.tx.length s.tf, eSto s.S]) rfl eSys_cut rfl ?_
  show eZ x E _ [eO s.a 0 [.ref s.m.a, .ref s.dq, .ref s.sb], eMac E s.m, eAD E s.dq s.da s.dh (hA s.hs), eMacs E s.hs, eSB E s.sb s.sv s.sN s.ml s.tx.length s.tf, eSto s.S, rs] 0 [some (.ref s.a), none] [] 0 0
  obtain ⟨c, hcm⟩ : ∃ c, c = s.m := ⟨_, rfl⟩
  rw [← hcm] at hs1 hs2 hQ_ ⊢
  show eZ x E _ [eO s.a 0 [.ref c.a, .ref s.dq, .ref s.sb], eMac E c, eAD E s.dq s.da s.dh (hA s.hs), eMacs E s.hs, eSB E s.sb s.sv s.sN s.ml s.tx.length s.tf, eSto s.S, rs] 0 [some (.ref s.a), none] [] 0 0
  have hok2 := hs1
  have hok := hs1
  obtain ⟨hk1, hk2, hk3, hk4, hk5, hk6⟩ := hok
  have hl4 : c.lns.length = 4 := by have h : (lV c.lns).length = 4 := hk1; rw [List.length_map] at h; exact h
  have hl8 : ∀ l ∈ c.lns, l.zs.length ≤ 8 := fun l hl => by have h : (qG l.zs).length ≤ 8 := hk2 _ (List.mem_map.mpr ⟨l, hl, rfl⟩); rw [List.length_map] at h; exact h
  have hc6 : c.crs.length = 6 := by have h : (c.crs.map Prod.snd).length = 6 := hk3; rw [List.length_map] at h; exact h
  have hb10 : c.bk.length ≤ 10 := by have h : (c.bk.map Prod.snd).length ≤ 10 := hk4; rw [List.length_map] at h; exact h
  have hla : (lA c.lns).length ≤ 10 := by rw [List.length_map]; omega
  have hka : (kA c.crs).length ≤ 10 := by rw [List.length_map]; omega
  refine z_aload_n C dX0_mean_0 rfl rfl ?_
  refine z_get eK0 0 0 C dX0_mean_1 rfl rfl q399 (eSame1 rfl) (by decide) rfl ?_
  refine z_iconst (v := 3) C dX0_mean_4 (by decide) ?_
  refine z_callS (As := [.ref c.a, .int 3]) (rest := []) (Δ := [eO s.a 0 [.ref c.a, .ref s.dq, .ref s.sb], eAD E s.dq s.da s.dh (hA s.hs), eMacs E s.hs, eSB E s.sb s.sv s.sN s.ml s.tx.length s.tf, eSto s.S, rs]) [1] [0, 2, 3, 4, 5, 6] 2 (m_ofCrates hl E c hs1 3) C dX0_mean_5 rfl rfl rfl q1428 q1429 q49 q1430 (by decide +kernel) rfl (ePm 7 rfl (by decide +kernel)) rfl rfl ⟨Nat.le_of_ble_eq_true rfl, Nat.le_of_ble_eq_true rfl⟩ (Nat.le_trans eS0 (Nat.le_of_ble_eq_true rfl)) ⟨Nat.le_of_ble_eq_true rfl, Nat.le_of_ble_eq_true rfl⟩ (fun v_ Γ_ hp_ => ?_)
  obtain ⟨rfl, rfl⟩ := hp_
  show eZ x E _ [eMac E c, eO s.a 0 [.ref c.a, .ref s.dq, .ref s.sb], eAD E s.dq s.da s.dh (hA s.hs), eMacs E s.hs, eSB E s.sb s.sv s.sN s.ml s.tx.length s.tf, eSto s.S, rs] 8 [some (.ref s.a), none] [.int (gOfC c.abs 3)] 1 4
  refine z_istore_n (L2 := [some (.ref s.a), some (.int (gOfC c.abs 3))]) C dX0_mean_8 rfl (Nat.le_of_ble_eq_true rfl) rfl ?_
  refine z_iload_n C dX0_mean_9 rfl rfl ?_
  refine z_if_ne 18 C dX0_mean_10 (by decide) (fun h1 => ?_) (fun h1 => ?_)
  · refine z_aload_n C dX0_mean_18 rfl rfl ?_
    refine z_get eK0 1 0 C dX0_mean_19 rfl rfl q399 (eSame1 rfl) (by decide) rfl ?_
    refine z_cut 0 (bs := [eO c.a 1 [.ref c.la, .ref c.ca, .ref c.ba, .ref c.sa, .int c.u.tk, .int c.u.cm, .int c.u.dk, .int c.u.co, .int c.u.wt, .int c.u.lk], eAL E c.la c.lq c.lm (lA c.lns), eLans 0 c.lns, eAL E c.ca c.cq c.cm (kA c.crs), eCrs c.crs, eLL c.ba c.bm (bX c.bk), eIA E c.sa 4 c.st]) rfl eMac_cut rfl ?_
    show eZ x E _ [eO c.a 1 [.ref c.la, .ref c.ca, .ref c.ba, .ref c.sa, .int c.u.tk, .int c.u.cm, .int c.u.dk, .int c.u.co, .int c.u.wt, .int c.u.lk], eAL E c.la c.lq c.lm (lA c.lns), eLans 0 c.lns, eAL E c.ca c.cq c.cm (kA c.crs), eCrs c.crs, eLL c.ba c.bm (bX c.bk), eIA E c.sa 4 c.st, eO s.a 0 [.ref c.a, .ref s.dq, .ref s.sb], eAD E s.dq s.da s.dh (hA s.hs), eMacs E s.hs, eSB E s.sb s.sv s.sN s.ml s.tx.length s.tf, eSto s.S, rs] 22 [some (.ref s.a), some (.int (gOfC c.abs 3))] [.ref c.a] 1 4
    refine z_getN eK1 0 8 C dX0_mean_22 rfl rfl q324 (eSame1 rfl) (by decide) rfl ?_
    refine z_i2f C dX0_mean_25 ?_
    refine z_iload_n C dX0_mean_26 rfl rfl ?_
    refine z_i2f C dX0_mean_27 ?_
    refine z_fdiv C dX0_mean_28 (gBitsF_n c.u.wt (gOfC c.abs 3) h1) ?_
    show eZ x E _ [eO c.a 1 [.ref c.la, .ref c.ca, .ref c.ba, .ref c.sa, .int c.u.tk, .int c.u.cm, .int c.u.dk, .int c.u.co, .int c.u.wt, .int c.u.lk], eAL E c.la c.lq c.lm (lA c.lns), eLans 0 c.lns, eAL E c.ca c.cq c.cm (kA c.crs), eCrs c.crs, eLL c.ba c.bm (bX c.bk), eIA E c.sa 4 c.st, eO s.a 0 [.ref c.a, .ref s.dq, .ref s.sb], eAD E s.dq s.da s.dh (hA s.hs), eMacs E s.hs, eSB E s.sb s.sv s.sN s.ml s.tx.length s.tf, eSto s.S, rs] 29 [some (.ref s.a), some (.int (gOfC c.abs 3))] [.float (gBitsF c.u.wt (gOfC c.abs 3))] 1 4
    refine z_callS (As := [.float (gBitsF c.u.wt (gOfC c.abs 3))]) (rest := []) (Δ := [eO c.a 1 [.ref c.la, .ref c.ca, .ref c.ba, .ref c.sa, .int c.u.tk, .int c.u.cm, .int c.u.dk, .int c.u.co, .int c.u.wt, .int c.u.lk], eAL E c.la c.lq c.lm (lA c.lns), eLans 0 c.lns, eAL E c.ca c.cq c.cm (kA c.crs), eCrs c.crs, eLL c.ba c.bm (bX c.bk), eIA E c.sa 4 c.st, eO s.a 0 [.ref c.a, .ref s.dq, .ref s.sb], eAD E s.dq s.da s.dh (hA s.hs), eMacs E s.hs, eSB E s.sb s.sv s.sN s.ml s.tx.length s.tf, eSto s.S, rs]) [] [0, 1, 2, 3, 4, 5, 6, 7, 8, 9, 10, 11, 12] 1 (m_f2ib hl E (gBitsF c.u.wt (gOfC c.abs 3)) (gBitsF_eq _ _ h1)) C dX0_mean_29 rfl rfl rfl q1436 q1437 q90 q1438 (by decide +kernel) rfl (ePm 13 rfl (by decide +kernel)) rfl rfl ⟨Nat.le_of_ble_eq_true rfl, Nat.le_of_ble_eq_true rfl⟩ (Nat.le_trans eS0 (Nat.le_of_ble_eq_true rfl)) ⟨Nat.le_of_ble_eq_true rfl, Nat.le_of_ble_eq_true rfl⟩ (fun v_ Γ_ hp_ => ?_)
    obtain ⟨rfl, rfl⟩ := hp_
    show eZ x E _ [eO c.a 1 [.ref c.la, .ref c.ca, .ref c.ba, .ref c.sa, .int c.u.tk, .int c.u.cm, .int c.u.dk, .int c.u.co, .int c.u.wt, .int c.u.lk], eAL E c.la c.lq c.lm (lA c.lns), eLans 0 c.lns, eAL E c.ca c.cq c.cm (kA c.crs), eCrs c.crs, eLL c.ba c.bm (bX c.bk), eIA E c.sa 4 c.st, eO s.a 0 [.ref c.a, .ref s.dq, .ref s.sb], eAD E s.dq s.da s.dh (hA s.hs), eMacs E s.hs, eSB E s.sb s.sv s.sN s.ml s.tx.length s.tf, eSto s.S, rs] 32 [some (.ref s.a), some (.int (gOfC c.abs 3))] [.int ((gBitsF c.u.wt (gOfC c.abs 3)).toInt32)] 1 4
    refine z_pick (Γ' := [eO c.a 1 [.ref c.la, .ref c.ca, .ref c.ba, .ref c.sa, .int c.u.tk, .int c.u.cm, .int c.u.dk, .int c.u.co, .int c.u.wt, .int c.u.lk], eAL E c.la c.lq c.lm (lA c.lns), eLans 0 c.lns, eAL E c.ca c.cq c.cm (kA c.crs), eCrs c.crs, eLL c.ba c.bm (bX c.bk), eIA E c.sa 4 c.st, eO s.a 0 [.ref c.a, .ref s.dq, .ref s.sb], eAD E s.dq s.da s.dh (hA s.hs), eMacs E s.hs, eSB E s.sb s.sv s.sN s.ml s.tx.length s.tf, eSto s.S, rs]) [0, 1, 2, 3, 4, 5, 6, 7, 8, 9, 10, 11, 12] (ePm 13 rfl (by decide +kernel)) rfl ?_
    refine z_join 7 (b := eMac E c) eMac_cut.symm rfl ?_
    show eZ x E _ [eMac E c, eO s.a 0 [.ref c.a, .ref s.dq, .ref s.sb], eAD E s.dq s.da s.dh (hA s.hs), eMacs E s.hs, eSB E s.sb s.sv s.sN s.ml s.tx.length s.tf, eSto s.S, rs] 32 [some (.ref s.a), some (.int (gOfC c.abs 3))] [.int ((gBitsF c.u.wt (gOfC c.abs 3)).toInt32)] 1 4
    refine z_pick (Γ' := [eO s.a 0 [.ref c.a, .ref s.dq, .ref s.sb], eMac E c, eAD E s.dq s.da s.dh (hA s.hs), eMacs E s.hs, eSB E s.sb s.sv s.sN s.ml s.tx.length s.tf, eSto s.S, rs]) [1, 0, 2, 3, 4, 5, 6] (ePm 7 rfl (by decide +kernel)) rfl ?_
    refine z_join 6 (b := eSys E s) (by rw [eSys_cut, ← hcm]; rfl) rfl ?_
    show eZ x E _ [eSys E s, rs] 32 [some (.ref s.a), some (.int (gOfC c.abs 3))] [.int ((gBitsF c.u.wt (gOfC c.abs 3)).toInt32)] 1 4
    refine z_pick (Γ' := [eSys E s, rs]) [0, 1] (ePm 2 rfl (by decide +kernel)) rfl ?_
    subst hQ_
    exact z_ret (Γ := [eSys E s]) C dX0_mean_32 rfl rfl (Nat.le_of_ble_eq_true rfl) (Nat.le_of_ble_eq_true rfl) ⟨by rw [gMeanQ, if_neg h1]; rfl, rfl⟩
  · refine z_ldc C dX0_mean_13 rfl q1351 ?_
    refine z_goto 32 C dX0_mean_15 (by decide) ?_
    refine z_pick (Γ' := [eO s.a 0 [.ref c.a, .ref s.dq, .ref s.sb], eMac E c, eAD E s.dq s.da s.dh (hA s.hs), eMacs E s.hs, eSB E s.sb s.sv s.sN s.ml s.tx.length s.tf, eSto s.S, rs]) [1, 0, 2, 3, 4, 5, 6] (ePm 7 rfl (by decide +kernel)) rfl ?_
    refine z_join 6 (b := eSys E s) (by rw [eSys_cut, ← hcm]; rfl) rfl ?_
    show eZ x E _ [eSys E s, rs] 32 [some (.ref s.a), some (.int (gOfC c.abs 3))] [.int (-1000004)] 1 4
    refine z_pick (Γ' := [eSys E s, rs]) [0, 1] (ePm 2 rfl (by decide +kernel)) rfl ?_
    subst hQ_
    exact z_ret (Γ := [eSys E s]) C dX0_mean_32 rfl rfl (Nat.le_of_ble_eq_true rfl) (Nat.le_of_ble_eq_true rfl) ⟨by rw [gMeanQ, if_pos h1], rfl⟩
