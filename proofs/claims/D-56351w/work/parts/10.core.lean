set_option maxRecDepth 100000
/-! core: one world of bundles, contracts over it, rows on flat objects (an object, its numbers, its own arrays of numbers) -/
def TX3 : u_T := fun _ => (RX3, "", "", false)
abbrev gT : Type := va_G × (Nat → ClassId) × (Nat → Nat)
abbrev bW : Type := List va_W
def clA : List vw_C := [(RX1, TX1, 7), (RX2, TX2, 8), (RX3, TX3, 0), (RX4, TX4, 7), (RX5, TX5, 10), (RX6, TX6, 28), (RX7, TX7, 5), (RX8, TX8, 8), (RX9, TX9, 4), (RX10, TX10, 1), (RX11, TX11, 4), (RX12, TX12, 2), (RX13, TX13, 7),
  (RJ2, TJ2, 1), (RJ4, TJ4, 9), (RJ6, TJ6, 4), (RJ7, TJ7, 4), (RJ9, TJ9, 3), (RJ10, TJ10, 1), (RJ12, TJ12, 4), (RJ18, TJ18, 1), (RJ25, TJ25, 6), (RJ32, TJ32, 3), (RJ33, TJ33, 4), (RJ40, TJ40, 1), (RJ16, TJ16, 6), (RJ28, TJ28, 6), (RJ30, TJ30, 6), (RJ36, TJ36, 6), (RJ37, TJ37, 6), (RJ39, TJ39, 6), (RJ38, TJ38, 2)]
def tysG (Γ : gT) : List (ClassId × FieldType) := [(Γ.2.1 0, .int), (Γ.2.1 1, .char), (Γ.2.1 2, .boolean), (Γ.2.1 3, .byte), (Γ.2.1 4, .long), (Γ.2.1 5, .double), (Γ.2.1 6, .object "java/lang/Object")]
def gkW : Cond → Bool
  | .fieldLinkNest _ _ _ _ _ _ => true
  | .methodLinkNest _ _ _ _ => true
  | .castable _ _ => true
  | .declares _ => true
  | _ => false
/-- what the tables give all through a run -/
def Gk (Γ : gT) (U : State) : Prop := va_K Γ.1 clA (tysG Γ) U ∧ ∀ w ∈ lw_tbl, gkW w = true → va_Nw w U
theorem gkW_tab {w : Cond} (h : gkW w = true) : w.onTables = true := by
  cases w <;> first | rfl | cases h
theorem Gk.warm {Γ : gT} {s U : State} (hW : s.WarmedH U.vm) (h : Gk Γ s) : Gk Γ U := by
  refine ⟨h.1.moved hW.alike, fun w hw hg => ?_⟩
  have h2 := h.2 w hw hg
  cases w <;> first | exact va_Nw.warmF hW h2 | exact va_Nw.warmM hW h2 | exact va_Nw.warmC hW h2 | exact va_Nw.warmD hW h2 | cases hg
theorem Gk.same {Γ : gT} {s U : State} (hv : s.vm = U.vm) (h : Gk Γ s) : Gk Γ U :=
  ⟨h.1.moved (by rw [hv]; exact Vm.Alike.refl _), fun w hw hg => (h.2 w hw hg).same (gkW_tab hg) hv⟩
theorem Gk.use {Γ : gT} {s : State} {args : Array Value} (h : Gk Γ s) {w : Cond} (hw : w ∈ lw_tbl) (hg : gkW w = true) : w.before args s = true := (h.2 w hw hg).use (gkW_tab hg)
/-- the facts that a method walks with -/
def Fx (Γ : gT) (p : Program) (c : Code) (cc : ByteArray) (nL : Nat) (s : State) (m : MethodId) (args : Array Value) (own : String) (A : Nat → Prop) : Prop :=
  p.tables.exec = Jvm.exec ∧ c.code = cc ∧ c.maxLocals = nL ∧ s.vm.findClass own = some m.cls ∧ (∀ w ∈ lw_all, w.before args s = true) ∧ Gk Γ s ∧ ∀ q : Nat, s.heap.size ≤ q → A q
/-- the world now -/
def Wo (Γ : gT) (A : Nat → Prop) (s : State) (H : Heap) (locs : List Loc) (bs : bW) : Prop := va_P Γ.1 clA bs.flatten H ∧ va_D A bs.flatten ∧ va_S A s.heap H locs
/-- a class of the list: its place, its words -/
def FC (i : Nat) (C : String) (T : u_T) (ty : Nat → FieldType) (N : Nat) : Prop := clA[i]? = some (C, T, N) ∧ (∀ w ∈ u_ws C T N, w ∈ lw_all) ∧ (∀ k, k < N → parseFieldDescriptor (T k).2.2.1 = some (ty k)) ∧ ∀ a, a < N → ∀ b, b < N → a ≠ b → (T a).2.1 ≠ (T b).2.1
/-! lists -/
theorem za_D {A : Nat → Prop} {ws : va_W} : va_D A ws ↔ (ws.map Prod.fst).Nodup ∧ ∀ q ∈ ws, A q.1 := by
  constructor
  · rintro ⟨h1, h2⟩
    refine ⟨?_, fun q hq => ?_⟩
    · rw [List.nodup_iff_pairwise_ne, List.pairwise_iff_getElem]
      intro i j hi hj hij he
      rw [List.getElem_map, List.getElem_map] at he
      simp only [List.length_map] at hi hj
      have := h1 i j ws[i] ws[j] (List.getElem?_eq_getElem hi) (List.getElem?_eq_getElem hj) he
      omega
    · obtain ⟨k, hk⟩ := List.getElem?_of_mem hq
      exact h2 k q hk
  · rintro ⟨h1, h2⟩
    refine ⟨fun i j p q hi hj he => ?_, fun k q hk => h2 q (List.mem_of_getElem? hk)⟩
    rw [List.nodup_iff_pairwise_ne, List.pairwise_iff_getElem] at h1
    obtain ⟨hi1, hi2⟩ := List.getElem?_eq_some_iff.mp hi
    obtain ⟨hj1, hj2⟩ := List.getElem?_eq_some_iff.mp hj
    rcases Nat.lt_trichotomy i j with h | h | h
    · exact absurd (by rw [List.getElem_map, List.getElem_map, hi2, hj2]; exact he) (h1 i j (by simpa using hi1) (by simpa using hj1) h)
    · exact h
    · exact absurd (by rw [List.getElem_map, List.getElem_map, hi2, hj2]; exact he.symm) (h1 j i (by simpa using hj1) (by simpa using hi1) h)
theorem za_P {D : va_G} {cl : List vw_C} {ws : va_W} {H : Heap} : va_P D cl ws H ↔ ∀ q ∈ ws, va_at D cl q H :=
  ⟨fun h q hq => by obtain ⟨k, hk⟩ := List.getElem?_of_mem hq; exact h k q hk, fun h k q hk => h q (List.mem_of_getElem? hk)⟩
theorem za_mem {bs : bW} {b : Nat} {B : va_W} (hb : bs[b]? = some B) {q : Nat × va_E} (hq : q ∈ B) : q ∈ bs.flatten := List.mem_flatten.mpr ⟨B, List.mem_of_getElem? hb, hq⟩
/-- two lists of the same addresses, place by place -/
theorem za_fst {bs : bW} {b : Nat} {B B' : va_W} (hb : bs[b]? = some B) (he : B'.map Prod.fst = B.map Prod.fst) : (bs.set b B').flatten.map Prod.fst = bs.flatten.map Prod.fst := by
  induction bs generalizing b with
  | nil => simp at hb
  | cons x bs ih =>
    cases b with
    | zero =>
      rw [List.getElem?_cons_zero] at hb
      cases hb
      simp [he]
    | succ b =>
      rw [List.getElem?_cons_succ] at hb
      simp only [List.set_cons_succ, List.flatten_cons, List.map_append, ih hb]
theorem za_setmem {bs : bW} {b : Nat} {B' : va_W} {q : Nat × va_E} (h : q ∈ (bs.set b B').flatten) : q ∈ B' ∨ ∃ (j : Nat) (X : va_W), j ≠ b ∧ bs[j]? = some X ∧ q ∈ X := by
  obtain ⟨X, hX, hq⟩ := List.mem_flatten.mp h
  obtain ⟨j, hj⟩ := List.getElem?_of_mem hX
  by_cases hjb : j = b
  · subst hjb
    have hl := (List.getElem?_eq_some_iff.mp hj).1
    rw [List.length_set] at hl
    rw [List.getElem?_set_self hl] at hj
    cases hj
    exact Or.inl hq
  · rw [List.getElem?_set_ne (Ne.symm hjb)] at hj
    exact Or.inr ⟨j, X, hjb, hj, hq⟩
/-- an address in two bundles is one bundle -/
theorem za_apart {bs : bW} (hn : (bs.flatten.map Prod.fst).Nodup) {i j : Nat} {X Y : va_W} (hi : bs[i]? = some X) (hj : bs[j]? = some Y) (hij : i ≠ j) {q r : Nat × va_E} (hq : q ∈ X) (hr : r ∈ Y) : q.1 ≠ r.1 := by
  induction bs generalizing i j with
  | nil => simp at hi
  | cons x bs ih =>
    rw [List.flatten_cons, List.map_append, List.nodup_append] at hn
    obtain ⟨-, h2, h3⟩ := hn
    cases i with
    | zero =>
      cases j with
      | zero => exact absurd rfl hij
      | succ j =>
        rw [List.getElem?_cons_zero] at hi
        rw [List.getElem?_cons_succ] at hj
        cases hi
        exact h3 _ (List.mem_map_of_mem hq) _ (List.mem_map_of_mem (za_mem hj hr))
    | succ i =>
      rw [List.getElem?_cons_succ] at hi
      cases j with
      | zero =>
        rw [List.getElem?_cons_zero] at hj
        cases hj
        exact fun e => h3 _ (List.mem_map_of_mem hr) _ (List.mem_map_of_mem (za_mem hi hq)) e.symm
      | succ j =>
        rw [List.getElem?_cons_succ] at hj
        exact ih h2 hi hj (fun e => hij (by rw [e]))
/-- one cell of one bundle is written: the world with that bundle anew -/
theorem za_write {Γ : gT} {A : Nat → Prop} {H H1 : Heap} {bs : bW} {b q0 : Nat} {B B' : va_W} {a : Nat} {e : va_E} (hP : va_P Γ.1 clA bs.flatten H) (hD : va_D A bs.flatten) (hb : bs[b]? = some B) (hq0 : ∃ e0, bs.flatten[q0]? = some (a, e0)) (ha : ∃ e0, (a, e0) ∈ B)
    (hf : B'.map Prod.fst = B.map Prod.fst) (hB : ∀ q ∈ B', q = (a, e) ∨ (q ∈ B ∧ q.1 ≠ a)) (hP1 : va_P Γ.1 clA (bs.flatten.set q0 (a, e)) H1) : va_P Γ.1 clA (bs.set b B').flatten H1 ∧ va_D A (bs.set b B').flatten := by
  obtain ⟨e0, hq0⟩ := hq0
  obtain ⟨e1, ha⟩ := ha
  have hn := za_D.mp hD
  have hset : ∀ q ∈ bs.flatten, q.1 ≠ a → q ∈ bs.flatten.set q0 (a, e) := by
    intro q hq hne
    obtain ⟨k, hk⟩ := List.getElem?_of_mem hq
    have hkq : q0 ≠ k := by
      intro h
      rw [← h, hq0] at hk
      cases hk
      exact hne rfl
    exact List.mem_of_getElem? (i := k) (by rw [List.getElem?_set_ne hkq]; exact hk)
  have hself : (a, e) ∈ bs.flatten.set q0 (a, e) := List.mem_of_getElem? (i := q0) (by rw [List.getElem?_set_self (List.getElem?_eq_some_iff.mp hq0).1])
  have hP1 := za_P.mp hP1
  refine ⟨za_P.mpr fun q hq => ?_, za_D.mpr ⟨by rw [za_fst hb hf]; exact hn.1, fun q hq => ?_⟩⟩
  · rcases za_setmem hq with h | ⟨j, X, hj, hX, hqX⟩
    · rcases hB q h with h | ⟨h, hne⟩
      · rw [h]; exact hP1 _ hself
      · exact hP1 _ (hset q (za_mem hb h) hne)
    · exact hP1 _ (hset q (za_mem hX hqX) (za_apart hn.1 hX hb hj hqX ha))
  · have : q.1 ∈ (bs.set b B').flatten.map Prod.fst := List.mem_map_of_mem hq
    rw [za_fst hb hf] at this
    obtain ⟨r, hr, e2⟩ := List.mem_map.mp this
    rw [← e2]
    exact hn.2 r hr
