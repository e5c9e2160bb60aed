set_option maxRecDepth 100000
theorem za_nodB {bs : bW} {b : Nat} {B : va_W} (hn : (bs.flatten.map Prod.fst).Nodup) (hb : bs[b]? = some B) : (B.map Prod.fst).Nodup := by
  induction bs generalizing b with
  | nil => simp at hb
  | cons x bs ih =>
    rw [List.flatten_cons, List.map_append, List.nodup_append] at hn
    cases b with
    | zero =>
      rw [List.getElem?_cons_zero] at hb
      cases hb
      exact hn.1
    | succ b =>
      rw [List.getElem?_cons_succ] at hb
      exact ih hn.2.1 hb
/-- one cell of one bundle is written, by its place -/
theorem za_write2 {Γ : gT} {A : Nat → Prop} {H : Heap} {bs : bW} {b i : Nat} {B : va_W} {a : Nat} {e0 : va_E} (hP : va_P Γ.1 clA bs.flatten H) (hD : va_D A bs.flatten) (hb : bs[b]? = some B) (hi : B[i]? = some (a, e0)) :
    ∃ q0 : Nat, bs.flatten[q0]? = some (a, e0) ∧ ∀ (e : va_E) (H1 : Heap), va_P Γ.1 clA (bs.flatten.set q0 (a, e)) H1 → va_P Γ.1 clA (bs.set b (B.set i (a, e))).flatten H1 ∧ va_D A (bs.set b (B.set i (a, e))).flatten := by
  have hm : (a, e0) ∈ B := List.mem_of_getElem? hi
  obtain ⟨q0, hq0⟩ := List.getElem?_of_mem (za_mem hb hm)
  have hil := (List.getElem?_eq_some_iff.mp hi).1
  have hnB : (B.map Prod.fst).Nodup := za_nodB (za_D.mp hD).1 hb
  refine ⟨q0, hq0, fun e H1 hP1 => za_write hP hD hb ⟨e0, hq0⟩ ⟨e0, hm⟩ ?_ (fun q hq => ?_) hP1⟩
  · rw [List.map_set]
    refine List.ext_getElem? fun j => ?_
    by_cases hj : i = j
    · subst hj
      rw [List.getElem?_set_self (by simpa using hil), List.getElem?_map, hi]
      rfl
    · rw [List.getElem?_set_ne hj]
  · obtain ⟨j, hj⟩ := List.getElem?_of_mem hq
    by_cases hij : i = j
    · subst hij
      rw [List.getElem?_set_self hil] at hj
      cases hj
      exact Or.inl rfl
    · rw [List.getElem?_set_ne hij] at hj
      refine Or.inr ⟨List.mem_of_getElem? hj, fun he => hij ?_⟩
      have hjl := (List.getElem?_eq_some_iff.mp hj).1
      rw [List.nodup_iff_pairwise_ne, List.pairwise_iff_getElem] at hnB
      have gi := (List.getElem?_eq_some_iff.mp hi).2
      have gj := (List.getElem?_eq_some_iff.mp hj).2
      rcases Nat.lt_trichotomy i j with h | h | h
      · exact absurd (by rw [List.getElem_map, List.getElem_map, gi, gj]; exact he.symm) (hnB i j (by simpa using hil) (by simpa using hjl) h)
      · exact h
      · exact absurd (by rw [List.getElem_map, List.getElem_map, gi, gj]; exact he) (hnB j i (by simpa using hjl) (by simpa using hil) h)
/-! flat objects: numbers by field, a long, own arrays of numbers by field -/
abbrev flT : Type := (Nat → Int32) × (Nat → Nat → Int32) × Int64
/-- a shape: (0,_) a number; (1,_) a long; (2,_) a reference that stays; (10+t,n) an own array of kind t and n places -/
abbrev shT : Type := List (Nat × Nat)
def flF (ad : Nat → Nat) (f : Nat → Int32) (z : Int64) : shT → Nat → List Value
  | [], _ => []
  | x :: r, k => (if x.1 = 0 then .int (f k) else if x.1 = 1 then .long z else .ref (ad k)) :: flF ad f z r (k + 1)
def flA (Γ : gT) (ad : Nat → Nat) (g : Nat → Nat → Int32) : shT → Nat → va_W
  | [], _ => []
  | x :: r, k => if 10 ≤ x.1 then (ad k, .inl (Γ.2.1 (x.1 - 10), x.2, .inl (g k))) :: flA Γ ad g r (k + 1) else flA Γ ad g r (k + 1)
def flW (Γ : gT) (ci : Nat) (sh : shT) (o : Nat) (ad : Nat → Nat) (τ : flT) : va_W := (o, .inr (ci, flF ad τ.1 τ.2.2 sh 0)) :: flA Γ ad τ.2.1 sh 0
theorem flF_len {ad : Nat → Nat} {f : Nat → Int32} {z : Int64} : ∀ (sh : shT) (k : Nat), (flF ad f z sh k).length = sh.length
  | [], _ => rfl
  | x :: r, k => by simp [flF, flF_len r]
theorem flF_get {ad : Nat → Nat} {f : Nat → Int32} {z : Int64} : ∀ (sh : shT) (k j : Nat) (x : Nat × Nat), sh[j]? = some x → (flF ad f z sh k)[j]? = some (if x.1 = 0 then .int (f (k + j)) else if x.1 = 1 then .long z else .ref (ad (k + j)))
  | [], _, j, x, h => by simp at h
  | y :: r, k, 0, x, h => by
    rw [List.getElem?_cons_zero] at h
    cases h
    simp [flF]
  | y :: r, k, j + 1, x, h => by
    rw [List.getElem?_cons_succ] at h
    have := flF_get (ad := ad) (f := f) (z := z) r (k + 1) j x h
    rw [show k + 1 + j = k + (j + 1) by omega] at this
    simpa [flF] using this
theorem flF_out {ad : Nat → Nat} {f f' : Nat → Int32} {z : Int64} : ∀ (sh : shT) (k : Nat), (∀ j, k ≤ j → f' j = f j) → flF ad f' z sh k = flF ad f z sh k
  | [], _, _ => rfl
  | x :: r, k, h => by
    simp only [flF, h k (Nat.le_refl _)]
    rw [flF_out r (k + 1) (fun j hj => h j (by omega))]
theorem flF_set {ad : Nat → Nat} {f : Nat → Int32} {z : Int64} {v : Int32} : ∀ (sh : shT) (k j w : Nat), sh[j]? = some (0, w) → (flF ad f z sh k).set j (.int v) = flF ad (upd f (k + j) v) z sh k
  | [], _, j, w, h => by simp at h
  | y :: r, k, 0, w, h => by
    rw [List.getElem?_cons_zero] at h
    cases h
    simp only [flF, List.set_cons_zero, Nat.add_zero, if_true]
    rw [flF_out (f := f) (f' := upd f k v) r (k + 1) (fun j hj => by rw [upd, if_neg (by omega)])]
    simp [upd]
  | y :: r, k, j + 1, w, h => by
    rw [List.getElem?_cons_succ] at h
    have := flF_set (ad := ad) (f := f) (z := z) (v := v) r (k + 1) j w h
    rw [show k + 1 + j = k + (j + 1) by omega] at this
    simp only [flF, List.set_cons_succ, this]
    rw [show upd f (k + (j + 1)) v k = f k from if_neg (by omega)]
theorem flF_setL {ad : Nat → Nat} {f : Nat → Int32} {z v : Int64} : ∀ (sh : shT) (k j w : Nat), sh[j]? = some (1, w) → (∀ i : Nat, i ≠ j → ∀ u : Nat, sh[i]? ≠ some (1, u)) → (flF ad f z sh k).set j (.long v) = flF ad f v sh k := by
  have aux : ∀ (sh : shT) (k : Nat), (∀ (i u : Nat), sh[i]? ≠ some (1, u)) → flF ad f z sh k = flF ad f v sh k := by
    intro sh
    induction sh with
    | nil => intro k _; rfl
    | cons x r ih =>
      intro k h
      have hx : x.1 ≠ 1 := fun e => h 0 x.2 (by rw [List.getElem?_cons_zero, ← e])
      simp only [flF, if_neg hx]
      rw [ih (k + 1) (fun i u => by have := h (i + 1) u; rwa [List.getElem?_cons_succ] at this)]
  intro sh
  induction sh with
  | nil => intro k j w h; simp at h
  | cons y r ih =>
    intro k j w h hu
    cases j with
    | zero =>
      rw [List.getElem?_cons_zero] at h
      cases h
      simp only [flF, List.set_cons_zero]
      rw [aux r (k + 1) (fun i u => by have := hu (i + 1) (by omega) u; rwa [List.getElem?_cons_succ] at this)]
      simp
    | succ j =>
      rw [List.getElem?_cons_succ] at h
      have hy : y.1 ≠ 1 := fun e => hu 0 (by omega) y.2 (by rw [List.getElem?_cons_zero, ← e])
      simp only [flF, List.set_cons_succ, if_neg hy]
      rw [ih (k + 1) j w h (fun i hi u => by have := hu (i + 1) (by omega) u; rwa [List.getElem?_cons_succ] at this)]
theorem flA_out {Γ : gT} {ad : Nat → Nat} {g g' : Nat → Nat → Int32} : ∀ (sh : shT) (k : Nat), (∀ j, k ≤ j → g' j = g j) → flA Γ ad g' sh k = flA Γ ad g sh k
  | [], _, _ => rfl
  | x :: r, k, h => by
    simp only [flA, h k (Nat.le_refl _)]
    rw [flA_out r (k + 1) (fun j hj => h j (by omega))]
theorem flA_set {Γ : gT} {ad : Nat → Nat} {g : Nat → Nat → Int32} : ∀ (sh : shT) (k j t n : Nat), sh[j]? = some (10 + t, n) →
    ∃ i, (flA Γ ad g sh k)[i]? = some (ad (k + j), .inl (Γ.2.1 t, n, .inl (g (k + j)))) ∧ ∀ f', (flA Γ ad g sh k).set i (ad (k + j), .inl (Γ.2.1 t, n, .inl f')) = flA Γ ad (va_up g (k + j) f') sh k
  | [], _, j, t, n, h => by simp at h
  | y :: r, k, 0, t, n, h => by
    rw [List.getElem?_cons_zero] at h
    cases h
    refine ⟨0, ?_, fun f' => ?_⟩
    · simp [flA]
    · simp only [flA, Nat.le_add_right, if_true, List.set_cons_zero, Nat.add_zero, Nat.add_sub_cancel_left]
      rw [flA_out (g := g) (g' := va_up g k f') r (k + 1) (fun j hj => by rw [va_up, if_neg (by omega)])]
      simp [va_up]
  | y :: r, k, j + 1, t, n, h => by
    rw [List.getElem?_cons_succ] at h
    obtain ⟨i, h1, h2⟩ := flA_set (Γ := Γ) (ad := ad) (g := g) r (k + 1) j t n h
    rw [show k + 1 + j = k + (j + 1) by omega] at h1 h2
    have hk : ∀ f' : Nat → Int32, va_up g (k + (j + 1)) f' k = g k := fun f' => if_neg (by omega)
    by_cases hy : 10 ≤ y.1
    · refine ⟨i + 1, ?_, fun f' => ?_⟩
      · simp only [flA, if_pos hy, List.getElem?_cons_succ]; exact h1
      · simp only [flA, if_pos hy, List.set_cons_succ, h2 f', hk]
    · refine ⟨i, ?_, fun f' => ?_⟩
      · simp only [flA, if_neg hy]; exact h1
      · simp only [flA, if_neg hy]; exact h2 f'
theorem flW_fst {Γ : gT} {ci : Nat} {sh : shT} {o : Nat} {ad : Nat → Nat} {τ τ' : flT} : (flW Γ ci sh o ad τ').map Prod.fst = (flW Γ ci sh o ad τ).map Prod.fst := by
  have : ∀ (sh : shT) (k : Nat) (g g' : Nat → Nat → Int32), (flA Γ ad g' sh k).map Prod.fst = (flA Γ ad g sh k).map Prod.fst := by
    intro sh
    induction sh with
    | nil => intros; rfl
    | cons x r ih =>
      intro k g g'
      by_cases hx : 10 ≤ x.1
      · simp [flA, hx, ih (k + 1) g g']
      · simp [flA, hx, ih (k + 1) g g']
  simp [flW, this sh 0 τ.2.1 τ'.2.1]
section FLAT
variable {Γ : gT} {p : Program} {l : Launch} {e : Env} {R : Room} {s : State} {m : MethodId} {args : Array Value} {below : List Frame} {meth : Method} {c : Code} {H : Heap} {locs : List Loc} {cells slots : Nat} {Q : State → Prop} {cc : ByteArray} {pc : Nat} {ls : Array Slot} {rest : List Value} {A : Nat → Prop} {own : String} {nL : Nat} {bs : bW}
variable {ci : Nat} {sh : shT} {o : Nat} {ad : Nat → Nat} {τ : flT} {C : String} {T : u_T} {ty : Nat → FieldType} {N : Nat}
theorem fl_get (X : Fx Γ p c cc nL s m args own A) (Y : Wo Γ A s H locs bs) (b : Nat) (hb : bs[b]? = some (flW Γ ci sh o ad τ)) (F : FC ci C T ty N) (k : Nat) {x : Nat × Nat} (hk : sh[k]? = some x) (hN : k < N) {index : Nat} (hl : (Cond.fieldLink own index (T k).1 (T k).2.1 (T k).2.2.1).before args s = true) {v : Value} (hv : (if x.1 = 0 then .int (τ.1 k) else if x.1 = 1 then .long τ.2.2 else .ref (ad k)) = v) (d : decode cc pc = .ok (.getfield index, 3))
    (kk : W p l e R s m args below meth c H locs cells slots Q (F0 m (pc + 3) ls (v :: rest))) : W p l e R s m args below meth c H locs cells slots Q (F0 m pc ls (.ref o :: rest)) := by
  obtain ⟨q0, hq0⟩ := List.getElem?_of_mem (za_mem hb (q := (o, .inr (ci, flF ad τ.1 τ.2.2 sh 0))) List.mem_cons_self)
  refine va_get X.1 X.2.1 X.2.2.2.2.1 F.2.1 X.2.2.2.1 X.2.2.2.2.2.1.1 Y.1 q0 hq0 F.1 k hN hl (fun _ h => h) ?_ d kk
  rw [flF_get sh 0 k x hk, Nat.zero_add, hv]
theorem fl_getN (X : Fx Γ p c cc nL s m args own A) (Y : Wo Γ A s H locs bs) (b : Nat) (hb : bs[b]? = some (flW Γ ci sh o ad τ)) (F : FC ci C T ty N) (k : Nat) {x : Nat × Nat} (hk : sh[k]? = some x) (hN : k < N) {index : Nat} {host : String} (hl : Cond.fieldLinkNest own index (T k).1 (T k).2.1 (T k).2.2.1 host ∈ lw_tbl) {v : Value} (hv : (if x.1 = 0 then .int (τ.1 k) else if x.1 = 1 then .long τ.2.2 else .ref (ad k)) = v) (d : decode cc pc = .ok (.getfield index, 3))
    (kk : W p l e R s m args below meth c H locs cells slots Q (F0 m (pc + 3) ls (v :: rest))) : W p l e R s m args below meth c H locs cells slots Q (F0 m pc ls (.ref o :: rest)) := by
  obtain ⟨q0, hq0⟩ := List.getElem?_of_mem (za_mem hb (q := (o, .inr (ci, flF ad τ.1 τ.2.2 sh 0))) List.mem_cons_self)
  refine va_getN X.1 X.2.1 X.2.2.2.2.1 F.2.1 X.2.2.2.1 X.2.2.2.2.2.1.1 Y.1 q0 hq0 F.1 k hN (X.2.2.2.2.2.1.use hl rfl) (fun _ h => h) ?_ d kk
  rw [flF_get sh 0 k x hk, Nat.zero_add, hv]
theorem fl_wr {i : Nat} {a : Nat} {e0 : va_E} {B : va_W} (Y : Wo Γ A s H locs bs) {b : Nat} (hb : bs[b]? = some B) (hi : B[i]? = some (a, e0)) :
    ∃ q0 : Nat, bs.flatten[q0]? = some (a, e0) ∧ ∀ (e : va_E) (H1 : Heap) (locs1 : List Loc), va_P Γ.1 clA (bs.flatten.set q0 (a, e)) H1 → va_S A s.heap H1 locs1 → Wo Γ A s H1 locs1 (bs.set b (B.set i (a, e))) := by
  obtain ⟨q0, h1, h2⟩ := za_write2 Y.1 Y.2.1 hb hi
  exact ⟨q0, h1, fun e H1 locs1 hP hS => ⟨(h2 e H1 hP).1, (h2 e H1 hP).2, hS⟩⟩
theorem fl_put (X : Fx Γ p c cc nL s m args own A) (Y : Wo Γ A s H locs bs) (b : Nat) (hb : bs[b]? = some (flW Γ ci sh o ad τ)) (F : FC ci C T ty N) (k : Nat) {z : Nat} (hk : sh[k]? = some (0, z)) (hN : k < N) {index : Nat} (hl : (Cond.fieldLink own index (T k).1 (T k).2.1 (T k).2.2.1).before args s = true) (hfin : (T k).2.2.2 = false) {v : Int32} (hn : narrow (ty k) (.int v) = .int v) (hfit : fits (ty k) (.int v) = true) (d : decode cc pc = .ok (.putfield index, 3))
    (kk : ∀ (H : Heap) (locs : List Loc), Wo Γ A s H locs (bs.set b (flW Γ ci sh o ad (upd τ.1 k v, τ.2))) → W p l e R s m args below meth c H locs cells slots Q (F0 m (pc + 3) ls rest)) : W p l e R s m args below meth c H locs cells slots Q (F0 m pc ls (.int v :: .ref o :: rest)) := by
  obtain ⟨q0, hq0, hw⟩ := fl_wr (i := 0) (a := o) (e0 := .inr (ci, flF ad τ.1 τ.2.2 sh 0)) Y hb rfl
  refine va_put X.1 X.2.1 X.2.2.2.2.1 F.2.1 ty F.2.2.1 F.2.2.2 X.2.2.2.1 X.2.2.2.2.2.1.1 Y.1 Y.2.1 Y.2.2 q0 hq0 F.1 k hN hl (fun _ h => h) hfin (F.2.2.1 k hN) hn hfit (by rw [flF_len]; exact (List.getElem?_eq_some_iff.mp hk).1) d (fun H1 locs1 hP hD hS => kk H1 locs1 ?_)
  have := hw _ H1 locs1 hP hS
  rw [flF_set sh 0 k z hk, Nat.zero_add] at this
  exact this
theorem fl_putN (X : Fx Γ p c cc nL s m args own A) (Y : Wo Γ A s H locs bs) (b : Nat) (hb : bs[b]? = some (flW Γ ci sh o ad τ)) (F : FC ci C T ty N) (k : Nat) {z : Nat} (hk : sh[k]? = some (0, z)) (hN : k < N) {index : Nat} {host : String} (hl : Cond.fieldLinkNest own index (T k).1 (T k).2.1 (T k).2.2.1 host ∈ lw_tbl) (hfin : (T k).2.2.2 = false) {v : Int32} (hn : narrow (ty k) (.int v) = .int v) (hfit : fits (ty k) (.int v) = true) (d : decode cc pc = .ok (.putfield index, 3))
    (kk : ∀ (H : Heap) (locs : List Loc), Wo Γ A s H locs (bs.set b (flW Γ ci sh o ad (upd τ.1 k v, τ.2))) → W p l e R s m args below meth c H locs cells slots Q (F0 m (pc + 3) ls rest)) : W p l e R s m args below meth c H locs cells slots Q (F0 m pc ls (.int v :: .ref o :: rest)) := by
  obtain ⟨q0, hq0, hw⟩ := fl_wr (i := 0) (a := o) (e0 := .inr (ci, flF ad τ.1 τ.2.2 sh 0)) Y hb rfl
  refine va_putN X.1 X.2.1 X.2.2.2.2.1 F.2.1 ty F.2.2.1 F.2.2.2 X.2.2.2.1 X.2.2.2.2.2.1.1 Y.1 Y.2.1 Y.2.2 q0 hq0 F.1 k hN (X.2.2.2.2.2.1.use hl rfl) (fun _ h => h) hfin (F.2.2.1 k hN) hn hfit (by rw [flF_len]; exact (List.getElem?_eq_some_iff.mp hk).1) d (fun H1 locs1 hP hD hS => kk H1 locs1 ?_)
  have := hw _ H1 locs1 hP hS
  rw [flF_set sh 0 k z hk, Nat.zero_add] at this
  exact this
theorem fl_putL (X : Fx Γ p c cc nL s m args own A) (Y : Wo Γ A s H locs bs) (b : Nat) (hb : bs[b]? = some (flW Γ ci sh o ad τ)) (F : FC ci C T ty N) (k : Nat) {z : Nat} (hk : sh[k]? = some (1, z)) (hu : ∀ i : Nat, i ≠ k → ∀ u : Nat, sh[i]? ≠ some (1, u)) (hN : k < N) {index : Nat} (hl : (Cond.fieldLink own index (T k).1 (T k).2.1 (T k).2.2.1).before args s = true) (hfin : (T k).2.2.2 = false) {v : Int64} (hn : narrow (ty k) (.long v) = .long v) (hfit : fits (ty k) (.long v) = true) (d : decode cc pc = .ok (.putfield index, 3))
    (kk : ∀ (H : Heap) (locs : List Loc), Wo Γ A s H locs (bs.set b (flW Γ ci sh o ad (τ.1, τ.2.1, v))) → W p l e R s m args below meth c H locs cells slots Q (F0 m (pc + 3) ls rest)) : W p l e R s m args below meth c H locs cells slots Q (F0 m pc ls (.long v :: .ref o :: rest)) := by
  obtain ⟨q0, hq0, hw⟩ := fl_wr (i := 0) (a := o) (e0 := .inr (ci, flF ad τ.1 τ.2.2 sh 0)) Y hb rfl
  refine va_put X.1 X.2.1 X.2.2.2.2.1 F.2.1 ty F.2.2.1 F.2.2.2 X.2.2.2.1 X.2.2.2.2.2.1.1 Y.1 Y.2.1 Y.2.2 q0 hq0 F.1 k hN hl (fun _ h => h) hfin (F.2.2.1 k hN) hn hfit (by rw [flF_len]; exact (List.getElem?_eq_some_iff.mp hk).1) d (fun H1 locs1 hP hD hS => kk H1 locs1 ?_)
  have := hw _ H1 locs1 hP hS
  rw [flF_setL sh 0 k z hk hu] at this
  exact this
theorem fl_arr (Y : Wo Γ A s H locs bs) {b : Nat} (hb : bs[b]? = some (flW Γ ci sh o ad τ)) {k t n : Nat} (hk : sh[k]? = some (10 + t, n)) :
    ∃ q0 : Nat, bs.flatten[q0]? = some (ad k, .inl (Γ.2.1 t, n, .inl (τ.2.1 k))) ∧ ∀ (f' : Nat → Int32) (H1 : Heap) (locs1 : List Loc), va_P Γ.1 clA (bs.flatten.set q0 (ad k, .inl (Γ.2.1 t, n, .inl f'))) H1 → va_S A s.heap H1 locs1 → Wo Γ A s H1 locs1 (bs.set b (flW Γ ci sh o ad (τ.1, va_up τ.2.1 k f', τ.2.2))) := by
  obtain ⟨i, h1, h2⟩ := flA_set (Γ := Γ) (ad := ad) (g := τ.2.1) sh 0 k t n hk
  rw [Nat.zero_add] at h1 h2
  obtain ⟨q0, hq0, hw⟩ := fl_wr (i := i + 1) (a := ad k) Y hb (by rw [flW, List.getElem?_cons_succ]; exact h1)
  refine ⟨q0, hq0, fun f' H1 locs1 hP hS => ?_⟩
  have := hw _ H1 locs1 hP hS
  rw [flW, List.set_cons_succ, h2 f'] at this
  exact this
/-- loads and stores of an own array of numbers -/
theorem fl_ald0 (X : Fx Γ p c cc nL s m args own A) (Y : Wo Γ A s H locs bs) (b : Nat) (hb : bs[b]? = some (flW Γ ci sh o ad τ)) (k : Nat) {n : Nat} (hk : sh[k]? = some (10 + 0, n)) {i : Int32} (hin : vp_in i n) (d : decode cc pc = .ok (.iaload, 1))
    (kk : W p l e R s m args below meth c H locs cells slots Q (F0 m (pc + 1) ls (.int (τ.2.1 k i.toNatClampNeg) :: rest))) : W p l e R s m args below meth c H locs cells slots Q (F0 m pc ls (.int i :: .ref (ad k) :: rest)) := by
  obtain ⟨q0, hq0, -⟩ := fl_arr Y hb hk
  exact va_iald X.1 X.2.1 X.2.2.2.2.2.1.1 Y.1 q0 0 hq0 rfl hin d kk
theorem fl_ald1 (X : Fx Γ p c cc nL s m args own A) (Y : Wo Γ A s H locs bs) (b : Nat) (hb : bs[b]? = some (flW Γ ci sh o ad τ)) (k : Nat) {n : Nat} (hk : sh[k]? = some (10 + 1, n)) {i : Int32} (hin : vp_in i n) (d : decode cc pc = .ok (.caload, 1))
    (kk : W p l e R s m args below meth c H locs cells slots Q (F0 m (pc + 1) ls (.int (τ.2.1 k i.toNatClampNeg) :: rest))) : W p l e R s m args below meth c H locs cells slots Q (F0 m pc ls (.int i :: .ref (ad k) :: rest)) := by
  obtain ⟨q0, hq0, -⟩ := fl_arr Y hb hk
  exact va_cald X.1 X.2.1 X.2.2.2.2.2.1.1 Y.1 q0 1 hq0 rfl hin d kk
theorem fl_ald2 (X : Fx Γ p c cc nL s m args own A) (Y : Wo Γ A s H locs bs) (b : Nat) (hb : bs[b]? = some (flW Γ ci sh o ad τ)) (k : Nat) {n : Nat} (hk : sh[k]? = some (10 + 2, n)) {i : Int32} (hin : vp_in i n) (d : decode cc pc = .ok (.baload, 1))
    (kk : W p l e R s m args below meth c H locs cells slots Q (F0 m (pc + 1) ls (.int (τ.2.1 k i.toNatClampNeg) :: rest))) : W p l e R s m args below meth c H locs cells slots Q (F0 m pc ls (.int i :: .ref (ad k) :: rest)) := by
  obtain ⟨q0, hq0, -⟩ := fl_arr Y hb hk
  exact va_zald X.1 X.2.1 X.2.2.2.2.2.1.1 Y.1 q0 2 hq0 rfl hin d kk
theorem fl_ast0 (X : Fx Γ p c cc nL s m args own A) (Y : Wo Γ A s H locs bs) (b : Nat) (hb : bs[b]? = some (flW Γ ci sh o ad τ)) (k : Nat) {n : Nat} (hk : sh[k]? = some (10 + 0, n)) {i x : Int32} (hin : vp_in i n) (d : decode cc pc = .ok (.iastore, 1))
    (kk : ∀ (H : Heap) (locs : List Loc), Wo Γ A s H locs (bs.set b (flW Γ ci sh o ad (τ.1, va_up τ.2.1 k (upd (τ.2.1 k) i.toNatClampNeg x), τ.2.2))) → W p l e R s m args below meth c H locs cells slots Q (F0 m (pc + 1) ls rest)) : W p l e R s m args below meth c H locs cells slots Q (F0 m pc ls (.int x :: .int i :: .ref (ad k) :: rest)) := by
  obtain ⟨q0, hq0, hw⟩ := fl_arr Y hb hk
  exact va_iast X.1 X.2.1 X.2.2.2.2.2.1.1 Y.1 Y.2.1 Y.2.2 q0 0 hq0 rfl hin d (fun H1 locs1 hP hD hS => kk H1 locs1 (hw _ H1 locs1 hP hS))
theorem fl_ast1 (X : Fx Γ p c cc nL s m args own A) (Y : Wo Γ A s H locs bs) (b : Nat) (hb : bs[b]? = some (flW Γ ci sh o ad τ)) (k : Nat) {n : Nat} (hk : sh[k]? = some (10 + 1, n)) {i x : Int32} (hin : vp_in i n) (d : decode cc pc = .ok (.castore, 1))
    (kk : ∀ (H : Heap) (locs : List Loc), Wo Γ A s H locs (bs.set b (flW Γ ci sh o ad (τ.1, va_up τ.2.1 k (upd (τ.2.1 k) i.toNatClampNeg (vp_nar .char x)), τ.2.2))) → W p l e R s m args below meth c H locs cells slots Q (F0 m (pc + 1) ls rest)) : W p l e R s m args below meth c H locs cells slots Q (F0 m pc ls (.int x :: .int i :: .ref (ad k) :: rest)) := by
  obtain ⟨q0, hq0, hw⟩ := fl_arr Y hb hk
  exact va_cast X.1 X.2.1 X.2.2.2.2.2.1.1 Y.1 Y.2.1 Y.2.2 q0 1 hq0 rfl hin d (fun H1 locs1 hP hD hS => kk H1 locs1 (hw _ H1 locs1 hP hS))
theorem fl_ast2 (X : Fx Γ p c cc nL s m args own A) (Y : Wo Γ A s H locs bs) (b : Nat) (hb : bs[b]? = some (flW Γ ci sh o ad τ)) (k : Nat) {n : Nat} (hk : sh[k]? = some (10 + 2, n)) {i x : Int32} (hin : vp_in i n) (d : decode cc pc = .ok (.bastore, 1))
    (kk : ∀ (H : Heap) (locs : List Loc), Wo Γ A s H locs (bs.set b (flW Γ ci sh o ad (τ.1, va_up τ.2.1 k (upd (τ.2.1 k) i.toNatClampNeg (vp_nar .boolean x)), τ.2.2))) → W p l e R s m args below meth c H locs cells slots Q (F0 m (pc + 1) ls rest)) : W p l e R s m args below meth c H locs cells slots Q (F0 m pc ls (.int x :: .int i :: .ref (ad k) :: rest)) := by
  obtain ⟨q0, hq0, hw⟩ := fl_arr Y hb hk
  exact va_zast X.1 X.2.1 X.2.2.2.2.2.1.1 Y.1 Y.2.1 Y.2.2 q0 2 hq0 rfl hin d (fun H1 locs1 hP hD hS => kk H1 locs1 (hw _ H1 locs1 hP hS))
/-- the length of an own array -/
theorem fl_alen (X : Fx Γ p c cc nL s m args own A) (Y : Wo Γ A s H locs bs) (b : Nat) (hb : bs[b]? = some (flW Γ ci sh o ad τ)) (k : Nat) {t n : Nat} (hk : sh[k]? = some (10 + t, n)) {fty : FieldType} (ht : (tysG Γ)[t]? = some (Γ.2.1 t, fty)) (d : decode cc pc = .ok (.arraylength, 1))
    (kk : W p l e R s m args below meth c H locs cells slots Q (F0 m (pc + 1) ls (.int (nI n) :: rest))) : W p l e R s m args below meth c H locs cells slots Q (F0 m pc ls (.ref (ad k) :: rest)) := by
  obtain ⟨q0, hq0, -⟩ := fl_arr Y hb hk
  exact va_alen X.1 X.2.1 X.2.2.2.2.2.1.1 Y.1 q0 t hq0 ht rfl d kk
end FLAT
