/-! ===== the law of orders: signs and ranges ===== -/
set_option maxRecDepth 100000
theorem gStep_01 (st : Nat → Int32) (nu : Int32) (v : Lv) (gs : List Eg) (cs : List Cr) (bs : List Enr) (u : Mv) : ∃ k, k ≤ 1 ∧ (gStep st nu v gs cs bs u).1 = nI k := by
  cases gs with
  | nil => exact ⟨0, by decide, rfl⟩
  | cons g t =>
    rw [gStep]
    split
    · exact ⟨1, by decide, rfl⟩
    · split
      · split <;> exact ⟨0, by decide, rfl⟩
      · exact ⟨0, by decide, rfl⟩
theorem gTick_r {A : Am} (hok : gOk A) : ∃ k, k ≤ 4 ∧ (gTick A).1 = nI k := by
  obtain ⟨ls, cs, bs, st, u⟩ := A
  obtain ⟨x0, x1, x2, x3, rfl⟩ : ∃ x0 x1 x2 x3, ls = [x0, x1, x2, x3] := by
    have h := hok.1
    match ls, h with
    | [a, b, c, d], _ => exact ⟨a, b, c, d, rfl⟩
  rw [gTick_4 x0 x1 x2 x3 cs bs st u _ _ _ _ rfl rfl rfl rfl]
  obtain ⟨k0, h0, e0⟩ := gStep_01 st (nI 0) x0.1 x0.2 cs bs u
  obtain ⟨k1, h1, e1⟩ := gStep_01 st (nI 1) x1.1 x1.2 (gStep st (nI 0) x0.1 x0.2 cs bs u).2.2.2.1 (gStep st (nI 0) x0.1 x0.2 cs bs u).2.2.2.2.1 (gStep st (nI 0) x0.1 x0.2 cs bs u).2.2.2.2.2
  generalize gStep st (nI 0) x0.1 x0.2 cs bs u = s0 at *
  generalize gStep st (nI 1) x1.1 x1.2 s0.2.2.2.1 s0.2.2.2.2.1 s0.2.2.2.2.2 = s1 at *
  obtain ⟨k2, h2, e2⟩ := gStep_01 st (nI 2) x2.1 x2.2 s1.2.2.2.1 s1.2.2.2.2.1 s1.2.2.2.2.2
  generalize gStep st (nI 2) x2.1 x2.2 s1.2.2.2.1 s1.2.2.2.2.1 s1.2.2.2.2.2 = s2 at *
  obtain ⟨k3, h3, e3⟩ := gStep_01 st (nI 3) x3.1 x3.2 s2.2.2.2.1 s2.2.2.2.2.1 s2.2.2.2.2.2
  generalize gStep st (nI 3) x3.1 x3.2 s2.2.2.2.1 s2.2.2.2.2.1 s2.2.2.2.2.2 = s3 at *
  refine ⟨k0 + k1 + k2 + k3, by omega, ?_⟩
  show 0 + s0.1 + s1.1 + s2.1 + s3.1 = _
  rw [e0, e1, e2, e3, Int32.zero_add, nI_add, nI_add, nI_add]
theorem gTicks_r (d : Nat) : ∀ (c : Nat) (A : Am), gOk A → ∃ k, k ≤ 4 * d ∧ (gTicks d (nI c, A)).1 = nI (c + k) := by
  induction d with
  | zero => intro c A _; exact ⟨0, by omega, rfl⟩
  | succ d ih =>
    intro c A hok
    obtain ⟨k1, h1, e1⟩ := gTick_r hok
    obtain ⟨k2, h2, e2⟩ := ih (c + k1) (gTick A).2 (gTick_ok hok)
    rw [gTicks_succ]
    refine ⟨k1 + k2, by omega, ?_⟩
    show (gTicks d (nI c + (gTick A).1, (gTick A).2)).1 = _
    rw [e1, nI_add, e2, Nat.add_assoc]
def gRok (r : Gr) : Prop := match r with | .inl c => c < 0 | .inr (v, M) => 0 ≤ v ∧ gWf M
theorem gWf_set {A : Am} {k : Nat} {l : Lv × List Eg} {u : Mv} (h : gWf A) (h1 : gWfL l.1) (h2 : ∀ g ∈ l.2, gEgOk g = true) : gWf (A.ls.set k l, A.cs, A.bs, A.st, u) := by
  refine ⟨fun x hx => ?_, h.2.1, h.2.2.1, trivial⟩
  rcases mem_set_ hx with h9 | h9
  · exact h.1 x h9
  · rw [h9]; exact ⟨h1, h2⟩
theorem gLane_x {A : Am} {ln : Int32} (hok : gOk A) (h : eBt ln 0 3 = true) : ∃ N lv gs, N < 4 ∧ ln = nI N ∧ A.ls[N]? = some (lv, gs) := by
  obtain ⟨N, hN, rfl⟩ := eBt_N h
  have hN4 : N < 4 := Nat.lt_succ_of_le hN
  exact ⟨N, _, _, hN4, rfl, List.getElem?_eq_getElem (by rw [hok.1]; exact hN4)⟩
theorem eBt_p {v hi : Int32} (h : eBt v 0 hi = true) : 0 ≤ v := (eBt_0 h).1
theorem gPuts_rok {A : Am} {ln : Int32} {g : Eg} (hok : gOk A) (hwf : gWf A) : gRok (gPuts A ln g) := by
  unfold gPuts
  by_cases h : (eBt ln 0 3 && gEgOk g) = true
  · rw [if_pos h]
    obtain ⟨h1, h2⟩ := Bool.and_eq_true_iff.mp h
    obtain ⟨N, lv, gs, hN, rfl, hx⟩ := gLane_x hok h1
    rw [gL_at hN hx, gSetL_at hN]
    have hw := hwf.1 _ (List.mem_of_getElem? hx)
    split
    · rename_i h8
      refine ⟨nI_pos' (by have : gs.length < 8 := h8; show gs.length + 1 < 2 ^ 31; omega), gWf_set hwf hw.1 (fun q hq => ?_)⟩
      rcases List.mem_append.mp hq with h9 | h9
      · exact hw.2 q h9
      · rw [List.mem_singleton.mp h9]; exact h2
    · show (-1000003 : Int32) < 0; decide
  · rw [if_neg h]; show (-1000001 : Int32) < 0; decide
theorem gOr_r {a b : Int32} (ha : eBt a 0 255 = true) (hb : eBt b 0 255 = true) : eBt (a ||| b) 0 255 = true := by
  obtain ⟨m, hm, rfl⟩ := eBt_ex (hi := 255) (by decide) ha
  obtain ⟨n, hn, rfl⟩ := eBt_ex (hi := 255) (by decide) hb
  rw [nI_or_]
  have h9 : m ||| n < 256 := Nat.or_lt_two_pow (n := 8) (by omega) (by omega)
  exact eBt_n (lo := 0) (hi := 255) (by omega) (by omega) (by decide)
theorem gSpE_ok {g : Eg} {sp : Int32} (h : gEgOk g = true) (hs : eBt sp 0 255 = true) : gEgOk (gSpE sp g) = true := by
  have h9 := gEgOk_ h
  show (eBt g.w 30 90 && (eBt g.sh 0 99 && (eBt (g.sp ||| sp) 0 255 && (eBt g.y 1 2 && eBt g.c (-1) 7)))) = true
  rw [h9.1, h9.2.1, gOr_r h9.2.2.1 hs, h9.2.2.2.1, h9.2.2.2.2]; rfl
theorem gSpots_rok {A : Am} {ln sp : Int32} (hok : gOk A) (hwf : gWf A) : gRok (gSpots A ln sp) := by
  unfold gSpots
  by_cases h : (eBt ln 0 3 && eBt sp 0 255) = true
  · rw [if_pos h]
    obtain ⟨h1, h2⟩ := Bool.and_eq_true_iff.mp h
    obtain ⟨N, lv, gs, hN, rfl, hx⟩ := gLane_x hok h1
    rw [gL_at hN hx, gSetL_at hN]
    have hw := hwf.1 _ (List.mem_of_getElem? hx)
    split
    · show (-1000002 : Int32) < 0; decide
    · rename_i hne
      obtain ⟨us, g, he⟩ : ∃ us g, gs = us ++ [g] := by
        rcases List.eq_nil_or_concat gs with h | ⟨us, g, h⟩
        · exact absurd (by rw [h]; rfl) hne
        · exact ⟨us, g, by rw [h, List.concat_eq_append]⟩
      subst he
      have hg := hw.2 g (by simp)
      show gRok (.inr ((gSpL sp (us ++ [g])).1, (A.ls.set N (lv, (gSpL sp (us ++ [g])).2), A.cs, A.bs, A.st, A.u)))
      rw [gSpL_sn]
      refine ⟨eBt_p (gOr_r (gEgOk_ hg).2.2.1 h2), gWf_set hwf hw.1 (fun q hq => ?_)⟩
      rcases List.mem_append.mp hq with h9 | h9
      · exact hw.2 q (List.mem_append_left _ h9)
      · rw [List.mem_singleton.mp h9]; exact gSpE_ok hg h2
  · rw [if_neg h]; show (-1000001 : Int32) < 0; decide
theorem gOne_rok {A : Am} {ok : Bool} {ln : Int32} {f : Lv → Int32} {s : Lv → Lv} (hok : gOk A) (hwf : gWf A) (hf : ∀ v, gWfL v → 0 ≤ f v) (hs : ok = true → ∀ v, gWfL v → gWfL (s v)) : gRok (gOne A ok ln f s) := by
  unfold gOne
  by_cases h : (eBt ln 0 3 && ok) = true
  · rw [if_pos h]
    obtain ⟨h1, h2⟩ := Bool.and_eq_true_iff.mp h
    obtain ⟨N, lv, gs, hN, rfl, hx⟩ := gLane_x hok h1
    rw [gL_at hN hx, gSetL_at hN]
    have hw := hwf.1 _ (List.mem_of_getElem? hx)
    exact ⟨hf lv hw.1, gWf_set hwf (hs h2 lv hw.1) hw.2⟩
  · rw [if_neg h]; show (-1000001 : Int32) < 0; decide
theorem gLights_rok {A : Am} {ln v : Int32} (hok : gOk A) (hwf : gWf A) : gRok (gLights A ln v) := gOne_rok hok hwf (fun _ h => eBt_p h.1) (fun hv _ h => ⟨hv, h.2.1, h.2.2⟩)
theorem gTurns_rok {A : Am} {ln v : Int32} (hok : gOk A) (hwf : gWf A) : gRok (gTurns A ln v) := gOne_rok hok hwf (fun _ h => Int32.le_trans (by decide) (eBt_0 h.2.1).1) (fun hv _ h => ⟨h.1, hv, h.2.2⟩)
theorem gCleans_rok {A : Am} {ln : Int32} (hok : gOk A) (hwf : gWf A) : gRok (gCleans A ln) := gOne_rok hok hwf (fun _ h => eBt_p h.2.2) (fun _ _ h => ⟨h.1, h.2.1, show eBt 0 0 9 = true by decide⟩)
theorem gRuns_rok {A : Am} {n : Int32} (hok : gOk A) (hwf : gWf A) : gRok (gRuns A n) := by
  unfold gRuns
  split
  · rename_i hn
    split
    · have hn50 : nN n ≤ 50 := nN_le (Int32.le_trans (by decide) (of_decide_eq_true hn).1) (of_decide_eq_true hn).2
      obtain ⟨k, hk, he⟩ := gTicks_r (nN n) 0 A hok
      refine ⟨?_, gTicks_wf _ _ hok hwf⟩
      rw [show (0 : Int32) = nI 0 from rfl, he]
      exact nI_pos' (by omega)
    · show (-1000003 : Int32) < 0; decide
  · show (-1000001 : Int32) < 0; decide
theorem gSets_rok {A : Am} {w v : Int32} (hwf : gWf A) : gRok (gSets A w v) := by
  unfold gSets
  by_cases hw : eBt w 0 3 = true
  · rw [if_pos hw]
    by_cases hv : eBt v (if w = 0 ∨ w = 1 then 1 else 0) (if w = 0 ∨ w = 3 then 8 else 9) = true
    · rw [if_pos hv]
      obtain ⟨N, hN, rfl⟩ := eBt_N hw
      have hN4 : N = 0 ∨ N = 1 ∨ N = 2 ∨ N = 3 := by have : nN 3 = 3 := rfl; omega
      obtain ⟨s0, s1, s2, s3⟩ := hwf.2.2.1
      rcases hN4 with rfl | rfl | rfl | rfl
      · exact ⟨Int32.le_trans (by decide) (eBt_0 s0).1, hwf.1, hwf.2.1, ⟨hv, s1, s2, s3⟩, trivial⟩
      · exact ⟨Int32.le_trans (by decide) (eBt_0 s1).1, hwf.1, hwf.2.1, ⟨s0, hv, s2, s3⟩, trivial⟩
      · exact ⟨eBt_p s2, hwf.1, hwf.2.1, ⟨s0, s1, hv, s3⟩, trivial⟩
      · exact ⟨eBt_p s3, hwf.1, hwf.2.1, ⟨s0, s1, s2, hv⟩, trivial⟩
    · rw [if_neg hv]; show (-1000001 : Int32) < 0; decide
  · rw [if_neg hw]; show (-1000001 : Int32) < 0; decide
theorem gDone_rok {c : Nat} {A : Am} {f : Nat → Int32} (hok : gOk A) (hwf : gWf A) (hW : gW c ≠ 0) : gRok (gDone (nI c) A f) := by
  rcases gW_l c hW with hl | hl | hl | hl | hl | hl
  · subst hl; rw [show nI 101 = 101 from rfl, gDone_e]; exact gPuts_rok hok hwf
  · subst hl; rw [show nI 115 = 115 from rfl, gDone_s]; exact gSpots_rok hok hwf
  · subst hl; rw [show nI 108 = 108 from rfl, gDone_l]; exact gLights_rok hok hwf
  · subst hl; rw [show nI 116 = 116 from rfl, gDone_t]; exact gTurns_rok hok hwf
  · subst hl; rw [show nI 99 = 99 from rfl, gDone_c]; exact gCleans_rok hok hwf
  · subst hl; rw [show nI 114 = 114 from rfl, gDone_r]; exact gRuns_rok hok hwf
theorem gOneR_wf {tx : List Nat} {p ch : Nat} {f : Nat → Int32} {A : Am} (hok : gOk A) (hwf : gWf A) : gWf (gOneR tx p ch f A).2.2.2.2 := by
  unfold gOneR
  cases ho : (gOF tx (gW ch) (gP1 ch p) f).1 with
  | false => rw [if_pos rfl]; exact hwf
  | true =>
    rw [if_neg (by decide)]
    have h9 := gDone_rok (f := (gOF tx (gW ch) (gP1 ch p) f).2.2) hok hwf (gOF_W ho)
    split
    · exact hwf
    · rename_i e; rw [e] at h9; exact h9.2
theorem gWell_wf (tx : List Nat) (k : Nat) : ∀ w : Wl, gOk w.2.2.2.2.2 → gWf w.2.2.2.2.2 → gWf (gWell tx k w).2.2.2.2.2 := by
  induction k with
  | zero => intro w _ h; exact h
  | succ k ih =>
    intro w h1 h2
    rw [gWell]
    split
    · split
      · exact h2
      · exact ih _ (gOneR_ok h1) (gOneR_wf h1 h2)
    · exact h2
