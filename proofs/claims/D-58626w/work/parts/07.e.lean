/-! ===== E: a layer over the kit: worlds as lists of blocks of cells, one judgement eZ for a place in a method ===== -/
set_option maxRecDepth 100000
abbrev eCx : Type := Program × Launch × Env × Room × State × MethodId × Array Value × List Frame × Method × Code
abbrev eLa (x : eCx) : Launch := x.2.1
abbrev eRo (x : eCx) : Room := x.2.2.2.1
abbrev eSt (x : eCx) : State := x.2.2.2.2.1
abbrev eMi (x : eCx) : MethodId := x.2.2.2.2.2.1
abbrev eAr (x : eCx) : Array Value := x.2.2.2.2.2.2.1
abbrev eBe (x : eCx) : List Frame := x.2.2.2.2.2.2.2.1
abbrev eMe (x : eCx) : Method := x.2.2.2.2.2.2.2.2.1
abbrev eCo (x : eCx) : Code := x.2.2.2.2.2.2.2.2.2
/-- the classes whose objects the worlds hold -/
def eCl : List vw_C := [(RX0, TX0, 3), (RX1, TX1, 10), (RX2, TX2, 7), (RX3, TX3, 5), (RX4, TX4, 15), (RX5, TX5, 6), (RX6, TX6, 7), (RX7, TX7, 6), (RX9, TX9, 7), (RX10, TX10, 7), (RX11, TX11, 5), (RX12, TX12, 8), (RJ2, TJ2, 3), (RJ4, TJ4, 4), (RJ24, TJ24, 3), (RJ23, TJ23, 5), (RJ13, TJ13, 4), (RJ8, TJ8, 3), (RJ10, TJ10, 4)]
def eCls (ci : Nat) (C : String) (T : u_T) (N : Nat) (ty : Nat → FieldType) : Prop := eCl[ci]? = some (C, T, N) ∧ (∀ w ∈ u_ws C T N, w ∈ lw_all) ∧ (∀ k, k < N → parseFieldDescriptor (T k).2.2.1 = some (ty k)) ∧ ∀ a, a < N → ∀ b, b < N → a ≠ b → (T a).2.1 ≠ (T b).2.1
theorem eK0 : eCls 0 RX0 TX0 3 tyX0 := ⟨rfl, in_X0, tyX0_ok, nmX0⟩
theorem eK1 : eCls 1 RX1 TX1 10 tyX1 := ⟨rfl, in_X1, tyX1_ok, nmX1⟩
theorem eK2 : eCls 2 RX2 TX2 7 tyX2 := ⟨rfl, in_X2, tyX2_ok, nmX2⟩
theorem eK3 : eCls 3 RX3 TX3 5 tyX3 := ⟨rfl, in_X3, tyX3_ok, nmX3⟩
theorem eK4 : eCls 4 RX4 TX4 15 tyX4 := ⟨rfl, in_X4, tyX4_ok, nmX4⟩
theorem eK5 : eCls 5 RX5 TX5 6 tyX5 := ⟨rfl, in_X5, tyX5_ok, nmX5⟩
theorem eK6 : eCls 6 RX6 TX6 7 tyX6 := ⟨rfl, in_X6, tyX6_ok, nmX6⟩
theorem eK7 : eCls 7 RX7 TX7 6 tyX7 := ⟨rfl, in_X7, tyX7_ok, nmX7⟩
theorem eK8 : eCls 8 RX9 TX9 7 tyX9 := ⟨rfl, in_X9, tyX9_ok, nmX9⟩
theorem eK9 : eCls 9 RX10 TX10 7 tyX10 := ⟨rfl, in_X10, tyX10_ok, nmX10⟩
theorem eK10 : eCls 10 RX11 TX11 5 tyX11 := ⟨rfl, in_X11, tyX11_ok, nmX11⟩
theorem eK11 : eCls 11 RX12 TX12 8 tyX12 := ⟨rfl, in_X12, tyX12_ok, nmX12⟩
theorem eK12 : eCls 12 RJ2 TJ2 3 tyJ2 := ⟨rfl, in_J2, tyJ2_ok, nmJ2⟩
theorem eK13 : eCls 13 RJ4 TJ4 4 tyJ4 := ⟨rfl, in_J4, tyJ4_ok, nmJ4⟩
theorem eK14 : eCls 14 RJ24 TJ24 3 tyJ24 := ⟨rfl, in_J24, tyJ24_ok, nmJ24⟩
theorem eK15 : eCls 15 RJ23 TJ23 5 tyJ23 := ⟨rfl, in_J23, tyJ23_ok, nmJ23⟩
theorem eK16 : eCls 16 RJ13 TJ13 4 tyJ13 := ⟨rfl, in_J13, tyJ13_ok, nmJ13⟩
theorem eK17 : eCls 17 RJ8 TJ8 3 tyJ8 := ⟨rfl, in_J8, tyJ8_ok, nmJ8⟩
theorem eK18 : eCls 18 RJ10 TJ10 4 tyJ10 := ⟨rfl, in_J10, tyJ10_ok, nmJ10⟩
/-- what is fixed through a run: the classes' numbers, the array classes' (0 int, 1 Object, 2 byte), the cells that may change, addresses of old objects -/
abbrev eEn : Type := va_G × (Nat → ClassId) × (Nat → Prop) × (Nat → Nat)
abbrev eTy (E : eEn) : List (ClassId × FieldType) := [(E.2.1 0, .int), (E.2.1 1, .object "java/lang/Object"), (E.2.1 2, .byte)]
abbrev eA (E : eEn) : Nat → Prop := E.2.2.1
/-- words of the tables that ride in no list of words -/
def eNwok (w : Cond) : Bool := match w with
  | .fieldLinkNest .. => true
  | .methodLinkNest .. => true
  | .castable .. => true
  | .declares .. => true
  | .privateMethod .. => true
  | _ => false
def eNw : List Cond := lw_tbl.filter eNwok
theorem eNw_in {w : Cond} (h : w ∈ lw_tbl) (g : eNwok w = true) : w ∈ eNw := List.mem_filter.mpr ⟨h, g⟩
theorem eNw_ok {w : Cond} (h : w ∈ eNw) : eNwok w = true := (List.mem_filter.mp h).2
theorem eNw_on {w : Cond} (h : eNwok w = true) : w.onTables = true := by
  cases w <;> first | rfl | cases h
theorem eNw_warmP {x : MethodName} {s U : State} (hW : s.WarmedH U.vm) (hZ : va_Nw (.privateMethod x) s) : va_Nw (.privateMethod x) U := va_tabs rfl (rfl : (s.setVm U.vm).vm = U.vm) (by rw [Cond.privateMethod_setVm hW.alike]; exact hZ)
theorem eNw_warm {w : Cond} (h : eNwok w = true) {s U : State} (hW : s.WarmedH U.vm) (hZ : va_Nw w s) : va_Nw w U := by
  cases w <;> first | exact va_Nw.warmF hW hZ | exact va_Nw.warmM hW hZ | exact va_Nw.warmC hW hZ | exact va_Nw.warmD hW hZ | exact eNw_warmP hW hZ | cases h
/-! the interface calls of the for loops -/
def eIfH : MethodName := ⟨"java/util/Iterator", "hasNext", "()Z"⟩
def eIfN : MethodName := ⟨"java/util/Iterator", "next", "()Ljava/lang/Object;"⟩
def eIfs (U : State) : Prop := va_Fw RJ13 eIfH yJ13_hasNext U ∧ va_Fw RJ13 eIfN yJ13_next U ∧ va_Fw RJ23 eIfH yJ23_hasNext U ∧ va_Fw RJ23 eIfN yJ23_next U
/-- old objects: the empty array of ArrayList, the texts -/
def eSl : List Nat := [3, 2, 7, 6, 8, 5]
def eSb : List (List Int32) := [[115, 108, 116], [99, 114], [114, 101, 102, 117, 115, 101, 100], [110, 111, 32, 101, 103, 103], [117, 110, 103, 114, 97, 100, 101, 100], [119, 114, 111, 110, 103]]
def eSta (E : eEn) (U : State) (H : Heap) : Prop :=
  (va_Z "java/util/ArrayList" "DEFAULTCAPACITY_EMPTY_ELEMENTDATA" "[Ljava/lang/Object;" (.ref (E.2.2.2 0)) (eA E) U H ∧ va_T (.object "java/lang/Object") (E.2.2.2 0) 0 (fun _ => .null) (eA E) U H ∧ va_Z "java/lang/String" "COMPACT_STRINGS" "Z" (.int 1) (eA E) U H) ∧
  (vx_Zq Bundle.tN "UNASSIGNED_STACK" Bundle.steD (eA E) U H ∧ vx_Zq Bundle.tN "SUPPRESSED_SENTINEL" Bundle.listD (eA E) U H ∧ va_Zq "jdk/internal/util/Preconditions" "SIOOBE_FORMATTER" "Ljava/util/function/BiFunction;" (eA E) U H) ∧
  vk_S 6 eSl eSb (fun i => E.2.2.2 (10 + i)) (fun i => E.2.2.2 (20 + i)) (eA E) U H
def eStr (E : eEn) (U : State) : Prop :=
  vk_R "EggLights$Reader" 65 "slt" (E.2.2.2 10) U ∧ vk_R "EggLights$Reader" 73 "cr" (E.2.2.2 11) U ∧ vk_R "EggLights$Refused" 1 "refused" (E.2.2.2 12) U ∧ vk_R "EggLights$Ungraded" 11 "no egg" (E.2.2.2 13) U ∧ vk_R "EggLights$Ungraded" 3 "ungraded" (E.2.2.2 14) U ∧ vk_R "EggLights$Wrong" 1 "wrong" (E.2.2.2 15) U
theorem eSta.kept {E : eEn} {U : State} {H H1 : Heap} (h : eSta E U H) (hq : ∀ a : Nat, a < H.size → ¬ eA E a → H1[a]? = H[a]?) : eSta E U H1 :=
  ⟨⟨h.1.1.kept hq, h.1.2.1.kept hq, h.1.2.2.kept hq⟩, ⟨h.2.1.1.kept hq, h.2.1.2.1.kept hq, h.2.1.2.2.kept hq⟩, h.2.2.kept hq⟩
theorem eSta.moved {E : eEn} {u U : State} {H : Heap} (hvm : u.vm.Alike U.vm) (h : eSta E u H) : eSta E U H :=
  ⟨⟨va_Z.moved hvm h.1.1, va_T.moved hvm h.1.2.1, va_Z.moved hvm h.1.2.2⟩, ⟨vx_Zq.moved hvm h.2.1.1, vx_Zq.moved hvm h.2.1.2.1, va_Zq.moved hvm h.2.1.2.2⟩, vk_S.moved hvm h.2.2⟩
theorem eStr.warm {E : eEn} {s U : State} (hW : s.WarmedH U.vm) (h : eStr E s) : eStr E U :=
  ⟨vk_R.warm hW h.1, vk_R.warm hW h.2.1, vk_R.warm hW h.2.2.1, vk_R.warm hW h.2.2.2.1, vk_R.warm hW h.2.2.2.2.1, vk_R.warm hW h.2.2.2.2.2⟩
theorem eIfs.moved {u U : State} (hvm : u.vm.Alike U.vm) (h : eIfs u) : eIfs U :=
  ⟨va_Fw.moved (by decide) hvm h.1, va_Fw.moved (by decide) hvm h.2.1, va_Fw.moved (by decide) hvm h.2.2.1, va_Fw.moved (by decide) hvm h.2.2.2⟩
/-- what every contract takes along -/
def eEnv (E : eEn) (U : State) : Prop :=
  va_K E.1 eCl (eTy E) U ∧ (∀ q, U.heap.size ≤ q → eA E q) ∧ (∀ w ∈ eNw, va_Nw w U) ∧ va_AO "java/lang/Object" U ∧ eIfs U ∧ eSta E U U.heap ∧ eStr E U
theorem eEnv.moved {E : eEn} {s U : State} (hW : s.WarmedH U.vm) (hz : s.heap.size ≤ U.heap.size) (hq : ∀ a : Nat, a < s.heap.size → ¬ eA E a → U.heap[a]? = s.heap[a]?) (h : eEnv E s) : eEnv E U := by
  obtain ⟨h1, h2, h3, h4, h5, h6, h7⟩ := h
  exact ⟨va_K.moved hW.alike h1, fun q hq => h2 q (Nat.le_trans hz hq), fun w hw => eNw_warm (eNw_ok hw) hW (h3 w hw), va_AO.moved hW.alike h4, eIfs.moved hW.alike h5, eSta.moved hW.alike (h6.kept hq), eStr.warm hW h7⟩
/-! lists of blocks -/
theorem eP_iff {D : va_G} {cl : List vw_C} {ws : va_W} {H : Heap} : va_P D cl ws H ↔ ∀ q ∈ ws, va_at D cl q H := by
  constructor
  · intro h q hq
    obtain ⟨k, hk⟩ := List.getElem?_of_mem hq
    exact h k q hk
  · intro h k q hk
    exact h q (List.mem_of_getElem? hk)
theorem eD_iff {A : Nat → Prop} {ws : va_W} : va_D A ws ↔ (ws.map Prod.fst).Nodup ∧ ∀ q ∈ ws, A q.1 := by
  constructor
  · intro h
    refine ⟨List.pairwise_iff_getElem.mpr fun i j hi hj hij e => ?_, fun q hq => ?_⟩
    · rw [List.length_map] at hi hj
      rw [List.getElem_map, List.getElem_map] at e
      have := h.1 i j _ _ (List.getElem?_eq_getElem hi) (List.getElem?_eq_getElem hj) e
      omega
    · obtain ⟨k, hk⟩ := List.getElem?_of_mem hq
      exact h.2 k q hk
  · intro h
    refine ⟨fun i j p q hp hq e => ?_, fun k q hk => h.2 q (List.mem_of_getElem? hk)⟩
    obtain ⟨hi, rfl⟩ := List.getElem?_eq_some_iff.mp hp
    obtain ⟨hj, rfl⟩ := List.getElem?_eq_some_iff.mp hq
    have h1 := List.pairwise_iff_getElem.mp h.1
    rcases Nat.lt_trichotomy i j with hij | hij | hij
    · exact absurd (by rw [List.getElem_map, List.getElem_map]; exact e) (h1 i j (by rw [List.length_map]; exact hi) (by rw [List.length_map]; exact hj) hij)
    · exact hij
    · exact absurd (by rw [List.getElem_map, List.getElem_map]; exact e.symm) (h1 j i (by rw [List.length_map]; exact hj) (by rw [List.length_map]; exact hi) hij)
/-- a cell whose monitor is free -/
def eFr (H : Heap) (a : Nat) : Prop := ∃ cell : Cell, H[a]? = some cell ∧ cell.monitor.owner = none ∧ cell.monitor.count = 0
theorem eFr.kept {H H1 : Heap} {a : Nat} (h : eFr H a) (e : H1[a]? = H[a]?) : eFr H1 a := by
  obtain ⟨cell, h1, h2⟩ := h
  exact ⟨cell, by rw [e]; exact h1, h2⟩
theorem eFr.of {H : Heap} {a : Nat} {cell : Cell} (h : H[a]? = some cell) (h1 : cell.monitor.owner = none) (h2 : cell.monitor.count = 0) : eFr H a := ⟨cell, h, h1, h2⟩
theorem eFr.mon {H : Heap} {a : Nat} {cell : Cell} (h : H[a]? = some cell) (hf : eFr H a) : cell.monitor.owner = none ∧ cell.monitor.count = 0 := by
  obtain ⟨c', h1, h2⟩ := hf
  cases h.symm.trans h1
  exact h2
/-- the world's cells, their monitors free -/
def eP (E : eEn) (ws : va_W) (H : Heap) : Prop := va_P E.1 eCl ws H ∧ ∀ q ∈ ws, eFr H q.1
theorem eP_perm {E : eEn} {ws ws' : va_W} {H : Heap} (h : ws.Perm ws') (hP : eP E ws H) : eP E ws' H :=
  ⟨eP_iff.mpr fun q hq => eP_iff.mp hP.1 q (h.mem_iff.mpr hq), fun q hq => hP.2 q (h.mem_iff.mpr hq)⟩
theorem eP_set {E : eEn} {A : Nat → Prop} {i : Nat} {ws : va_W} {a : Nat} {e0 e : va_E} {H H1 : Heap} (hP : eP E ws H) (hD : va_D A ws) (hi : ws[i]? = some (a, e0)) (he : va_at E.1 eCl (a, e) H1) (hm : eFr H1 a) (oq : ∀ q : Nat, q ≠ a → H1[q]? = H[q]?) : eP E (ws.set i (a, e)) H1 := by
  refine ⟨hP.1.set hD hi he oq, fun q hq => ?_⟩
  by_cases hqa : q.1 = a
  · rw [hqa]; exact hm
  · rcases List.mem_or_eq_of_mem_set hq with h | h
    · exact (hP.2 q h).kept (oq _ hqa)
    · exact absurd (by rw [h]) hqa
theorem eP_push {E : eEn} {ws : va_W} {a : Nat} {e : va_E} {H H1 : Heap} (hP : eP E ws H) (ha : a = H.size) (he : va_at E.1 eCl (a, e) H1) (hm : eFr H1 a) (oq : ∀ q : Nat, q < H.size → H1[q]? = H[q]?) : eP E (ws ++ [(a, e)]) H1 := by
  have hk : ∀ q ∈ ws, H1[q.1]? = H[q.1]? := fun q hq => oq q.1 (eP_iff.mp hP.1 q hq).lt
  refine ⟨eP_iff.mpr fun q hq => ?_, fun q hq => ?_⟩
  · rcases List.mem_append.mp hq with h | h
    · exact (eP_iff.mp hP.1 q h).kept (hk q h)
    · rw [List.mem_singleton.mp h]; exact he
  · rcases List.mem_append.mp hq with h | h
    · exact (hP.2 q h).kept (hk q h)
    · rw [List.mem_singleton.mp h]; exact hm
theorem eD_perm {A : Nat → Prop} {ws ws' : va_W} (h : ws.Perm ws') (hD : va_D A ws) : va_D A ws' := by
  have h1 := eD_iff.mp hD
  exact eD_iff.mpr ⟨(h.map Prod.fst).nodup_iff.mp h1.1, fun q hq => h1.2 q (h.mem_iff.mpr hq)⟩
/-- blocks by their places -/
def ePick (Γ : List va_W) (ks : List Nat) : List va_W := ks.map fun i => Γ.getD i []
theorem ePick_all (Γ : List va_W) : ePick Γ (List.range Γ.length) = Γ := by
  apply List.ext_getElem?
  intro i
  rw [ePick, List.getElem?_map]
  by_cases h : i < Γ.length
  · rw [List.getElem?_range h, List.getElem?_eq_getElem h]
    simp [h]
  · rw [List.getElem?_eq_none (by simpa using h), List.getElem?_eq_none (by omega)]
    rfl
theorem ePick_perm {Γ : List va_W} {ks : List Nat} (h : ks.isPerm (List.range Γ.length) = true) : Γ.flatten.Perm (ePick Γ ks).flatten := by
  have h1 : (ePick Γ ks).Perm Γ := by
    have h2 := (List.isPerm_iff.mp h).map (fun i => Γ.getD i [])
    rw [show List.map (fun i => Γ.getD i []) (List.range Γ.length) = Γ from ePick_all Γ] at h2
    exact h2
  exact h1.symm.flatten
theorem ePick_app {Γ : List va_W} {a b : List Nat} : ePick Γ (a ++ b) = ePick Γ a ++ ePick Γ b := List.map_append
/-- a block of one cell, in its place -/
theorem eBlk {Γ : List va_W} {i : Nat} {q : Nat × va_E} (h : Γ[i]? = some [q]) : ∃ j, Γ.flatten[j]? = some q ∧ ∀ q', (Γ.set i [q']).flatten = Γ.flatten.set j q' := by
  induction Γ generalizing i with
  | nil => simp at h
  | cons b Γ ih =>
    cases i with
    | zero =>
      simp at h
      subst h
      exact ⟨0, rfl, fun q' => rfl⟩
    | succ i =>
      obtain ⟨j, h1, h2⟩ := ih (i := i) (by simpa using h)
      refine ⟨b.length + j, ?_, fun q' => ?_⟩
      · rw [List.flatten_cons, List.getElem?_append_right (Nat.le_add_right _ _), Nat.add_sub_cancel_left]
        exact h1
      · rw [List.set_cons_succ, List.flatten_cons, List.flatten_cons, h2 q', List.set_append_right _ _ (Nat.le_add_right _ _), Nat.add_sub_cancel_left]
theorem eIn {Γ : List va_W} {i : Nat} {b : va_W} {q : Nat × va_E} (h : Γ[i]? = some b) (hq : q ∈ b) : q ∈ Γ.flatten := List.mem_flatten.mpr ⟨b, List.mem_of_getElem? h, hq⟩
/-! locals -/
def eLl (L : List (Option Value)) : List (Nat × Value) := (List.range L.length).filterMap fun i => (L.getD i none).map fun v => (i, v)
theorem eLl_mem {L : List (Option Value)} {i : Nat} {v : Value} : (i, v) ∈ eLl L ↔ L[i]? = some (some v) := by
  constructor
  · intro h
    obtain ⟨j, hj, e⟩ := List.mem_filterMap.mp h
    have hj' : j < L.length := List.mem_range.mp hj
    rw [List.getD_eq_getElem?_getD, List.getElem?_eq_getElem hj'] at e
    rw [Option.getD_some, Option.map_eq_some_iff] at e
    obtain ⟨w, e1, e2⟩ := e
    cases e2
    rw [List.getElem?_eq_getElem hj', e1]
  · intro h
    have hi : i < L.length := (List.getElem?_eq_some_iff.mp h).1
    refine List.mem_filterMap.mpr ⟨i, List.mem_range.mpr hi, ?_⟩
    rw [List.getD_eq_getElem?_getD, h]
    rfl
def eL (ls : Array Slot) (L : List (Option Value)) : Prop := lv_has ls L.length (eLl L) ∧ ∀ v, some v ∈ L → v.category = 1
theorem eL.at {ls : Array Slot} {L : List (Option Value)} (h : eL ls L) {i : Nat} {v : Value} (hi : L[i]? = some (some v)) : ls[i]? = some (.val v) := h.1.2.2 (i, v) (eLl_mem.mpr hi)
theorem eL.set {ls' : Array Slot} {L : List (Option Value)} {i : Nat} {v : Value} (hc : ∀ v, some v ∈ L → v.category = 1) (hi : i < L.length) (hv : v.category = 1) (h : lv_has ls' L.length ((i, v) :: (eLl L).filter (fun q => !(q.1 == i) && !(q.1 + 1 == i && q.2.category == 2)))) : eL ls' (L.set i (some v)) := by
  refine ⟨?_, fun w hw => ?_⟩
  · rw [List.length_set]
    refine ⟨h.1, h.2.1, fun q hq => h.2.2 q ?_⟩
    obtain ⟨j, w⟩ := q
    have h1 := eLl_mem.mp hq
    by_cases hj : j = i
    · subst hj
      rw [List.getElem?_set_self hi] at h1
      cases h1
      exact List.mem_cons_self
    · rw [List.getElem?_set_ne (fun e => hj e.symm)] at h1
      refine List.mem_cons_of_mem _ (List.mem_filter.mpr ⟨eLl_mem.mpr h1, ?_⟩)
      have h2 := hc w (List.mem_of_getElem? h1)
      simp [hj, h2]
  · rcases List.mem_or_eq_of_mem_set hw with h1 | h1
    · exact hc w h1
    · cases h1
      exact hv
theorem eL.start {vs : List Value} {n : Nat} (hv : ∀ v ∈ vs, v.category = 1) (hn : vs.length ≤ n) : eL ((lg_sl vs ++ List.replicate (n - (lg_sl vs).length) Slot.unset).toArray) (vs.map some ++ List.replicate (n - vs.length) none) := by
  have key : ∀ (us : List Value) (k : Nat), (∀ v ∈ us, v.category = 1) → (lg_sl us).length = us.length ∧ ∀ i v, us[i]? = some v → (k + i, v) ∈ lv_args k us := by
    intro us
    induction us with
    | nil => intro k _; exact ⟨rfl, fun i v h => by simp at h⟩
    | cons a us ih =>
      intro k hc
      have ha : a.category = 1 := hc a List.mem_cons_self
      obtain ⟨h1, h2⟩ := ih (k + 1) (fun v h => hc v (List.mem_cons_of_mem _ h))
      refine ⟨?_, fun i v h => ?_⟩
      · simp [lg_sl, ha] at h1 ⊢
        omega
      · have e : lv_args k (a :: us) = (k, a) :: lv_args (k + 1) us := by rw [lv_args, if_neg (by omega)]
        rw [e]
        cases i with
        | zero => cases h; exact List.mem_cons_self
        | succ i =>
          refine List.mem_cons_of_mem _ ?_
          have := h2 i v (by simpa using h)
          rw [show k + (i + 1) = k + 1 + i by omega]
          exact this
  obtain ⟨k1, k2⟩ := key vs 0 hv
  have h := lv_entry vs (n := n) (by rw [k1]; exact hn)
  have hlen : (vs.map some ++ List.replicate (n - vs.length) (none : Option Value)).length = n := by simp; omega
  refine ⟨?_, fun v h1 => ?_⟩
  · rw [hlen]
    refine ⟨h.1, h.2.1, fun q hq => h.2.2 q ?_⟩
    obtain ⟨j, w⟩ := q
    have h1 := eLl_mem.mp hq
    by_cases hj : j < vs.length
    · rw [List.getElem?_append_left (by simpa using hj), List.getElem?_map] at h1
      cases hw : vs[j]? with
      | none => rw [hw] at h1; cases h1
      | some u =>
        rw [hw] at h1
        cases h1
        have := k2 j w hw
        rw [Nat.zero_add] at this
        exact this
    · rw [List.getElem?_append_right (by simpa using hj)] at h1
      have := List.mem_of_getElem? h1
      have := List.eq_of_mem_replicate this
      cases this
  · rcases List.mem_append.mp h1 with h2 | h2
    · obtain ⟨u, hu, e⟩ := List.mem_map.mp h2
      cases e
      exact hv _ hu
    · cases List.eq_of_mem_replicate h2
