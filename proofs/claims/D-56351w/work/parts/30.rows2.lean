set_option maxRecDepth 100000
/-! rows on worlds of objects and arrays, each a bundle of one cell; on references that may be null; on texts known outside the world -/
section ROW2
variable {Γ : gT} {p : Program} {l : Launch} {e : Env} {R : Room} {s : State} {m : MethodId} {args : Array Value} {below : List Frame} {meth : Method} {c : Code} {H : Heap} {locs : List Loc} {cells slots : Nat} {Q : State → Prop} {cc : ByteArray} {pc : Nat} {ls : Array Slot} {rest : List Value} {A : Nat → Prop} {own : String} {nL : Nat} {bs : bW}
variable {ci : Nat} {a : Nat} {fs : List Value} {C : String} {T : u_T} {ty : Nat → FieldType} {N : Nat}
theorem ob_get (X : Fx Γ p c cc nL s m args own A) (Y : Wo Γ A s H locs bs) (b : Nat) (hb : bs[b]? = some [(a, .inr (ci, fs))]) (F : FC ci C T ty N) (k : Nat) (hN : k < N) {index : Nat} (hl : (Cond.fieldLink own index (T k).1 (T k).2.1 (T k).2.2.1).before args s = true) {v : Value} (hv : fs[k]? = some v) (d : decode cc pc = .ok (.getfield index, 3))
    (kk : W p l e R s m args below meth c H locs cells slots Q (F0 m (pc + 3) ls (v :: rest))) : W p l e R s m args below meth c H locs cells slots Q (F0 m pc ls (.ref a :: rest)) := by
  obtain ⟨q0, hq0⟩ := List.getElem?_of_mem (za_mem hb (q := (a, .inr (ci, fs))) List.mem_cons_self)
  exact va_get X.1 X.2.1 X.2.2.2.2.1 F.2.1 X.2.2.2.1 X.2.2.2.2.2.1.1 Y.1 q0 hq0 F.1 k hN hl (fun _ h => h) hv d kk
theorem ob_getN (X : Fx Γ p c cc nL s m args own A) (Y : Wo Γ A s H locs bs) (b : Nat) (hb : bs[b]? = some [(a, .inr (ci, fs))]) (F : FC ci C T ty N) (k : Nat) (hN : k < N) {index : Nat} {host : String} (hl : Cond.fieldLinkNest own index (T k).1 (T k).2.1 (T k).2.2.1 host ∈ lw_tbl) {v : Value} (hv : fs[k]? = some v) (d : decode cc pc = .ok (.getfield index, 3))
    (kk : W p l e R s m args below meth c H locs cells slots Q (F0 m (pc + 3) ls (v :: rest))) : W p l e R s m args below meth c H locs cells slots Q (F0 m pc ls (.ref a :: rest)) := by
  obtain ⟨q0, hq0⟩ := List.getElem?_of_mem (za_mem hb (q := (a, .inr (ci, fs))) List.mem_cons_self)
  exact va_getN X.1 X.2.1 X.2.2.2.2.1 F.2.1 X.2.2.2.1 X.2.2.2.2.2.1.1 Y.1 q0 hq0 F.1 k hN (X.2.2.2.2.2.1.use hl rfl) (fun _ h => h) hv d kk
theorem ob_put (X : Fx Γ p c cc nL s m args own A) (Y : Wo Γ A s H locs bs) (b : Nat) (hb : bs[b]? = some [(a, .inr (ci, fs))]) (F : FC ci C T ty N) (k : Nat) (hN : k < N) {index : Nat} (hl : (Cond.fieldLink own index (T k).1 (T k).2.1 (T k).2.2.1).before args s = true) (hfin : (T k).2.2.2 = false) {v : Value} (hn : narrow (ty k) v = v) (hfit : fits (ty k) v = true) (hlen : k < fs.length) (d : decode cc pc = .ok (.putfield index, 3))
    (kk : ∀ (H : Heap) (locs : List Loc), Wo Γ A s H locs (bs.set b [(a, .inr (ci, fs.set k v))]) → W p l e R s m args below meth c H locs cells slots Q (F0 m (pc + 3) ls rest)) : W p l e R s m args below meth c H locs cells slots Q (F0 m pc ls (v :: .ref a :: rest)) := by
  obtain ⟨q0, hq0, hw⟩ := fl_wr (i := 0) (a := a) (e0 := .inr (ci, fs)) Y hb rfl
  exact va_put X.1 X.2.1 X.2.2.2.2.1 F.2.1 ty F.2.2.1 F.2.2.2 X.2.2.2.1 X.2.2.2.2.2.1.1 Y.1 Y.2.1 Y.2.2 q0 hq0 F.1 k hN hl (fun _ h => h) hfin (F.2.2.1 k hN) hn hfit hlen d (fun H1 locs1 hP hD hS => kk H1 locs1 (hw _ H1 locs1 hP hS))
theorem ob_putN (X : Fx Γ p c cc nL s m args own A) (Y : Wo Γ A s H locs bs) (b : Nat) (hb : bs[b]? = some [(a, .inr (ci, fs))]) (F : FC ci C T ty N) (k : Nat) (hN : k < N) {index : Nat} {host : String} (hl : Cond.fieldLinkNest own index (T k).1 (T k).2.1 (T k).2.2.1 host ∈ lw_tbl) (hfin : (T k).2.2.2 = false) {v : Value} (hn : narrow (ty k) v = v) (hfit : fits (ty k) v = true) (hlen : k < fs.length) (d : decode cc pc = .ok (.putfield index, 3))
    (kk : ∀ (H : Heap) (locs : List Loc), Wo Γ A s H locs (bs.set b [(a, .inr (ci, fs.set k v))]) → W p l e R s m args below meth c H locs cells slots Q (F0 m (pc + 3) ls rest)) : W p l e R s m args below meth c H locs cells slots Q (F0 m pc ls (v :: .ref a :: rest)) := by
  obtain ⟨q0, hq0, hw⟩ := fl_wr (i := 0) (a := a) (e0 := .inr (ci, fs)) Y hb rfl
  exact va_putN X.1 X.2.1 X.2.2.2.2.1 F.2.1 ty F.2.2.1 F.2.2.2 X.2.2.2.1 X.2.2.2.2.2.1.1 Y.1 Y.2.1 Y.2.2 q0 hq0 F.1 k hN (X.2.2.2.2.2.1.use hl rfl) (fun _ h => h) hfin (F.2.2.1 k hN) hn hfit hlen d (fun H1 locs1 hP hD hS => kk H1 locs1 (hw _ H1 locs1 hP hS))
theorem ob_putF (X : Fx Γ p c cc nL s m args own A) (Y : Wo Γ A s H locs bs) (b : Nat) (hb : bs[b]? = some [(a, .inr (ci, fs))]) (F : FC ci C T ty N) (k : Nat) (hN : k < N) {index : Nat} (hl : (Cond.fieldLink own index (T k).1 (T k).2.1 (T k).2.2.1).before args s = true) (hfin : (T k).2.2.2 = true) (hin : meth.name = "<init>") (hdecl : (T k).1 = own) {v : Value} (hn : narrow (ty k) v = v) (hfit : fits (ty k) v = true) (hlen : k < fs.length) (d : decode cc pc = .ok (.putfield index, 3))
    (kk : ∀ (H : Heap) (locs : List Loc), Wo Γ A s H locs (bs.set b [(a, .inr (ci, fs.set k v))]) → W p l e R s m args below meth c H locs cells slots Q (F0 m (pc + 3) ls rest)) : W p l e R s m args below meth c H locs cells slots Q (F0 m pc ls (v :: .ref a :: rest)) := by
  obtain ⟨q0, hq0, hw⟩ := fl_wr (i := 0) (a := a) (e0 := .inr (ci, fs)) Y hb rfl
  exact va_putF X.1 X.2.1 X.2.2.2.2.1 F.2.1 ty F.2.2.1 F.2.2.2 X.2.2.2.1 X.2.2.2.2.2.1.1 Y.1 Y.2.1 Y.2.2 q0 hq0 F.1 k hN hl (fun _ h => h) hfin hin hdecl (F.2.2.1 k hN) hn hfit hlen d (fun H1 locs1 hP hD hS => kk H1 locs1 (hw _ H1 locs1 hP hS))
theorem za_snoc {q : Nat × va_E} : bs.flatten ++ [q] = (bs ++ [[q]]).flatten := by simp
theorem ob_new (X : Fx Γ p c cc nL s m args own A) (Y : Wo Γ A s H locs bs) (F : FC ci C T ty N) {index : Nat} (hcl : Cond.classLink own index C ∈ lw_all) (hinst : Cond.instantiable C N ∈ lw_all) (hini : Cond.initialized C ∈ lw_all) (hfs : ∀ j, j < N → defaultValue (ty j) = vp_V fs j) (hc : cells + 1 ≤ R.cells) (hs : slots + N ≤ R.slots) (d : decode cc pc = .ok (.new index, 3))
    (kk : ∀ (q : Nat) (H : Heap), Wo Γ A s H locs (bs ++ [[(q, .inr (ci, fs))]]) → W p l e R s m args below meth c H locs (cells + 1) (slots + N) Q (F0 m (pc + 3) ls (.ref q :: rest))) : W p l e R s m args below meth c H locs cells slots Q (F0 m pc ls rest) :=
  va_new X.1 X.2.1 X.2.2.2.2.1 F.2.1 ty F.2.2.1 X.2.2.2.1 (X.2.2.2.2.1 _ hcl) (X.2.2.2.2.1 _ hinst) (X.2.2.2.2.1 _ hini) X.2.2.2.2.2.1.1 Y.1 Y.2.1 Y.2.2 X.2.2.2.2.2.2 F.1 hfs hc hs d
    (fun q H1 hP hD hS => kk q H1 ⟨by rw [← za_snoc]; exact hP, by rw [← za_snoc]; exact hD, hS⟩)
/-! arrays -/
theorem ar_mem {Y0 : va_E} {b : Nat} (hb : bs[b]? = some [(a, Y0)]) : ∃ q0 : Nat, bs.flatten[q0]? = some (a, Y0) := List.getElem?_of_mem (za_mem hb (q := (a, Y0)) List.mem_cons_self)
theorem ar_ald0 {n : Nat} {f : Nat → Int32} (X : Fx Γ p c cc nL s m args own A) (Y : Wo Γ A s H locs bs) (b : Nat) (hb : bs[b]? = some [(a, .inl (Γ.2.1 0, n, .inl f))]) {i : Int32} (hin : vp_in i n) (d : decode cc pc = .ok (.iaload, 1))
    (kk : W p l e R s m args below meth c H locs cells slots Q (F0 m (pc + 1) ls (.int (f i.toNatClampNeg) :: rest))) : W p l e R s m args below meth c H locs cells slots Q (F0 m pc ls (.int i :: .ref a :: rest)) := by
  obtain ⟨q0, hq0⟩ := ar_mem hb
  exact va_iald X.1 X.2.1 X.2.2.2.2.2.1.1 Y.1 q0 0 hq0 rfl hin d kk
theorem ar_ast0 {n : Nat} {f : Nat → Int32} (X : Fx Γ p c cc nL s m args own A) (Y : Wo Γ A s H locs bs) (b : Nat) (hb : bs[b]? = some [(a, .inl (Γ.2.1 0, n, .inl f))]) {i x : Int32} (hin : vp_in i n) (d : decode cc pc = .ok (.iastore, 1))
    (kk : ∀ (H : Heap) (locs : List Loc), Wo Γ A s H locs (bs.set b [(a, .inl (Γ.2.1 0, n, .inl (upd f i.toNatClampNeg x)))]) → W p l e R s m args below meth c H locs cells slots Q (F0 m (pc + 1) ls rest)) : W p l e R s m args below meth c H locs cells slots Q (F0 m pc ls (.int x :: .int i :: .ref a :: rest)) := by
  obtain ⟨q0, hq0, hw⟩ := fl_wr (i := 0) Y hb rfl
  exact va_iast X.1 X.2.1 X.2.2.2.2.2.1.1 Y.1 Y.2.1 Y.2.2 q0 0 hq0 rfl hin d (fun H1 locs1 hP hD hS => kk H1 locs1 (hw _ H1 locs1 hP hS))
theorem ar_ald1 {n : Nat} {f : Nat → Int32} (X : Fx Γ p c cc nL s m args own A) (Y : Wo Γ A s H locs bs) (b : Nat) (hb : bs[b]? = some [(a, .inl (Γ.2.1 1, n, .inl f))]) {i : Int32} (hin : vp_in i n) (d : decode cc pc = .ok (.caload, 1))
    (kk : W p l e R s m args below meth c H locs cells slots Q (F0 m (pc + 1) ls (.int (f i.toNatClampNeg) :: rest))) : W p l e R s m args below meth c H locs cells slots Q (F0 m pc ls (.int i :: .ref a :: rest)) := by
  obtain ⟨q0, hq0⟩ := ar_mem hb
  exact va_cald X.1 X.2.1 X.2.2.2.2.2.1.1 Y.1 q0 1 hq0 rfl hin d kk
theorem ar_ast1 {n : Nat} {f : Nat → Int32} (X : Fx Γ p c cc nL s m args own A) (Y : Wo Γ A s H locs bs) (b : Nat) (hb : bs[b]? = some [(a, .inl (Γ.2.1 1, n, .inl f))]) {i x : Int32} (hin : vp_in i n) (d : decode cc pc = .ok (.castore, 1))
    (kk : ∀ (H : Heap) (locs : List Loc), Wo Γ A s H locs (bs.set b [(a, .inl (Γ.2.1 1, n, .inl (upd f i.toNatClampNeg (vp_nar .char x))))]) → W p l e R s m args below meth c H locs cells slots Q (F0 m (pc + 1) ls rest)) : W p l e R s m args below meth c H locs cells slots Q (F0 m pc ls (.int x :: .int i :: .ref a :: rest)) := by
  obtain ⟨q0, hq0, hw⟩ := fl_wr (i := 0) Y hb rfl
  exact va_cast X.1 X.2.1 X.2.2.2.2.2.1.1 Y.1 Y.2.1 Y.2.2 q0 1 hq0 rfl hin d (fun H1 locs1 hP hD hS => kk H1 locs1 (hw _ H1 locs1 hP hS))
theorem ar_ald2 {n : Nat} {f : Nat → Int32} (X : Fx Γ p c cc nL s m args own A) (Y : Wo Γ A s H locs bs) (b : Nat) (hb : bs[b]? = some [(a, .inl (Γ.2.1 2, n, .inl f))]) {i : Int32} (hin : vp_in i n) (d : decode cc pc = .ok (.baload, 1))
    (kk : W p l e R s m args below meth c H locs cells slots Q (F0 m (pc + 1) ls (.int (f i.toNatClampNeg) :: rest))) : W p l e R s m args below meth c H locs cells slots Q (F0 m pc ls (.int i :: .ref a :: rest)) := by
  obtain ⟨q0, hq0⟩ := ar_mem hb
  exact va_zald X.1 X.2.1 X.2.2.2.2.2.1.1 Y.1 q0 2 hq0 rfl hin d kk
theorem ar_ast2 {n : Nat} {f : Nat → Int32} (X : Fx Γ p c cc nL s m args own A) (Y : Wo Γ A s H locs bs) (b : Nat) (hb : bs[b]? = some [(a, .inl (Γ.2.1 2, n, .inl f))]) {i x : Int32} (hin : vp_in i n) (d : decode cc pc = .ok (.bastore, 1))
    (kk : ∀ (H : Heap) (locs : List Loc), Wo Γ A s H locs (bs.set b [(a, .inl (Γ.2.1 2, n, .inl (upd f i.toNatClampNeg (vp_nar .boolean x))))]) → W p l e R s m args below meth c H locs cells slots Q (F0 m (pc + 1) ls rest)) : W p l e R s m args below meth c H locs cells slots Q (F0 m pc ls (.int x :: .int i :: .ref a :: rest)) := by
  obtain ⟨q0, hq0, hw⟩ := fl_wr (i := 0) Y hb rfl
  exact va_zast X.1 X.2.1 X.2.2.2.2.2.1.1 Y.1 Y.2.1 Y.2.2 q0 2 hq0 rfl hin d (fun H1 locs1 hP hD hS => kk H1 locs1 (hw _ H1 locs1 hP hS))
theorem ar_ald3 {n : Nat} {f : Nat → Int32} (X : Fx Γ p c cc nL s m args own A) (Y : Wo Γ A s H locs bs) (b : Nat) (hb : bs[b]? = some [(a, .inl (Γ.2.1 3, n, .inl f))]) {i : Int32} (hin : vp_in i n) (d : decode cc pc = .ok (.baload, 1))
    (kk : W p l e R s m args below meth c H locs cells slots Q (F0 m (pc + 1) ls (.int (f i.toNatClampNeg) :: rest))) : W p l e R s m args below meth c H locs cells slots Q (F0 m pc ls (.int i :: .ref a :: rest)) := by
  obtain ⟨q0, hq0⟩ := ar_mem hb
  exact va_bald X.1 X.2.1 X.2.2.2.2.2.1.1 Y.1 q0 3 hq0 rfl hin d kk
theorem ar_ast3 {n : Nat} {f : Nat → Int32} (X : Fx Γ p c cc nL s m args own A) (Y : Wo Γ A s H locs bs) (b : Nat) (hb : bs[b]? = some [(a, .inl (Γ.2.1 3, n, .inl f))]) {i x : Int32} (hin : vp_in i n) (d : decode cc pc = .ok (.bastore, 1))
    (kk : ∀ (H : Heap) (locs : List Loc), Wo Γ A s H locs (bs.set b [(a, .inl (Γ.2.1 3, n, .inl (upd f i.toNatClampNeg (vp_nar .byte x))))]) → W p l e R s m args below meth c H locs cells slots Q (F0 m (pc + 1) ls rest)) : W p l e R s m args below meth c H locs cells slots Q (F0 m pc ls (.int x :: .int i :: .ref a :: rest)) := by
  obtain ⟨q0, hq0, hw⟩ := fl_wr (i := 0) Y hb rfl
  exact va_bast X.1 X.2.1 X.2.2.2.2.2.1.1 Y.1 Y.2.1 Y.2.2 q0 3 hq0 rfl hin d (fun H1 locs1 hP hD hS => kk H1 locs1 (hw _ H1 locs1 hP hS))
theorem ar_ald4 {n : Nat} {f : Nat → Int64} (X : Fx Γ p c cc nL s m args own A) (Y : Wo Γ A s H locs bs) (b : Nat) (hb : bs[b]? = some [(a, .inl (Γ.2.1 4, n, .inr (.inl f)))]) {i : Int32} (hin : vp_in i n) (d : decode cc pc = .ok (.laload, 1))
    (kk : W p l e R s m args below meth c H locs cells slots Q (F0 m (pc + 1) ls (.long (f i.toNatClampNeg) :: rest))) : W p l e R s m args below meth c H locs cells slots Q (F0 m pc ls (.int i :: .ref a :: rest)) := by
  obtain ⟨q0, hq0⟩ := ar_mem hb
  exact va_lald X.1 X.2.1 X.2.2.2.2.2.1.1 Y.1 q0 4 hq0 rfl hin d kk
theorem ar_ast4 {n : Nat} {f : Nat → Int64} (X : Fx Γ p c cc nL s m args own A) (Y : Wo Γ A s H locs bs) (b : Nat) (hb : bs[b]? = some [(a, .inl (Γ.2.1 4, n, .inr (.inl f)))]) {i : Int32} {x : Int64} (hin : vp_in i n) (d : decode cc pc = .ok (.lastore, 1))
    (kk : ∀ (H : Heap) (locs : List Loc), Wo Γ A s H locs (bs.set b [(a, .inl (Γ.2.1 4, n, .inr (.inl (vp_updL f i.toNatClampNeg x))))]) → W p l e R s m args below meth c H locs cells slots Q (F0 m (pc + 1) ls rest)) : W p l e R s m args below meth c H locs cells slots Q (F0 m pc ls (.long x :: .int i :: .ref a :: rest)) := by
  obtain ⟨q0, hq0, hw⟩ := fl_wr (i := 0) Y hb rfl
  exact va_last X.1 X.2.1 X.2.2.2.2.2.1.1 Y.1 Y.2.1 Y.2.2 q0 4 hq0 rfl hin d (fun H1 locs1 hP hD hS => kk H1 locs1 (hw _ H1 locs1 hP hS))
theorem ar_ald5 {n : Nat} {f : Nat → UInt64} (X : Fx Γ p c cc nL s m args own A) (Y : Wo Γ A s H locs bs) (b : Nat) (hb : bs[b]? = some [(a, .inl (Γ.2.1 5, n, .inr (.inr (.inr (.inl f)))))]) {i : Int32} (hin : vp_in i n) (d : decode cc pc = .ok (.daload, 1))
    (kk : W p l e R s m args below meth c H locs cells slots Q (F0 m (pc + 1) ls (.double (f i.toNatClampNeg) :: rest))) : W p l e R s m args below meth c H locs cells slots Q (F0 m pc ls (.int i :: .ref a :: rest)) := by
  obtain ⟨q0, hq0⟩ := ar_mem hb
  exact va_dald X.1 X.2.1 X.2.2.2.2.2.1.1 Y.1 q0 5 hq0 rfl hin d kk
theorem ar_ast5 {n : Nat} {f : Nat → UInt64} (X : Fx Γ p c cc nL s m args own A) (Y : Wo Γ A s H locs bs) (b : Nat) (hb : bs[b]? = some [(a, .inl (Γ.2.1 5, n, .inr (.inr (.inr (.inl f)))))]) {i : Int32} {x : UInt64} (hin : vp_in i n) (d : decode cc pc = .ok (.dastore, 1))
    (kk : ∀ (H : Heap) (locs : List Loc), Wo Γ A s H locs (bs.set b [(a, .inl (Γ.2.1 5, n, .inr (.inr (.inr (.inl (vf_upd f i.toNatClampNeg x))))))]) → W p l e R s m args below meth c H locs cells slots Q (F0 m (pc + 1) ls rest)) : W p l e R s m args below meth c H locs cells slots Q (F0 m pc ls (.double x :: .int i :: .ref a :: rest)) := by
  obtain ⟨q0, hq0, hw⟩ := fl_wr (i := 0) Y hb rfl
  exact va_dast X.1 X.2.1 X.2.2.2.2.2.1.1 Y.1 Y.2.1 Y.2.2 q0 5 hq0 rfl hin d (fun H1 locs1 hP hD hS => kk H1 locs1 (hw _ H1 locs1 hP hS))
theorem ar_ald6 {n : Nat} {f : Nat → Option Nat} (X : Fx Γ p c cc nL s m args own A) (Y : Wo Γ A s H locs bs) (b : Nat) (hb : bs[b]? = some [(a, .inl (Γ.2.1 6, n, .inr (.inr (.inr (.inr f)))))]) {i : Int32} (hin : vp_in i n) (d : decode cc pc = .ok (.aaload, 1))
    (kk : W p l e R s m args below meth c H locs cells slots Q (F0 m (pc + 1) ls (va_rf (f i.toNatClampNeg) :: rest))) : W p l e R s m args below meth c H locs cells slots Q (F0 m pc ls (.int i :: .ref a :: rest)) := by
  obtain ⟨q0, hq0⟩ := ar_mem hb
  exact va_aldq X.1 X.2.1 X.2.2.2.2.2.1.1 Y.1 q0 6 hq0 rfl hin d kk
theorem ar_ast6N {n : Nat} {f : Nat → Option Nat} (X : Fx Γ p c cc nL s m args own A) (Y : Wo Γ A s H locs bs) (b : Nat) (hb : bs[b]? = some [(a, .inl (Γ.2.1 6, n, .inr (.inr (.inr (.inr f)))))]) {i : Int32} (hin : vp_in i n) (d : decode cc pc = .ok (.aastore, 1))
    (kk : ∀ (H : Heap) (locs : List Loc), Wo Γ A s H locs (bs.set b [(a, .inl (Γ.2.1 6, n, .inr (.inr (.inr (.inr (va_up f i.toNatClampNeg none))))))]) → W p l e R s m args below meth c H locs cells slots Q (F0 m (pc + 1) ls rest)) : W p l e R s m args below meth c H locs cells slots Q (F0 m pc ls (.null :: .int i :: .ref a :: rest)) := by
  obtain ⟨q0, hq0, hw⟩ := fl_wr (i := 0) Y hb rfl
  exact va_astqN X.1 X.2.1 X.2.2.2.2.2.1.1 Y.1 Y.2.1 Y.2.2 q0 6 hq0 rfl hin d (fun H1 locs1 hP hD hS => kk H1 locs1 (hw _ H1 locs1 hP hS))
theorem ar_ast6 {n v : Nat} {f : Nat → Option Nat} (X : Fx Γ p c cc nL s m args own A) (Y : Wo Γ A s H locs bs) (b : Nat) (hb : bs[b]? = some [(a, .inl (Γ.2.1 6, n, .inr (.inr (.inr (.inr f)))))]) (hr : va_Any "java/lang/Object" s H v) {i : Int32} (hin : vp_in i n) (d : decode cc pc = .ok (.aastore, 1))
    (kk : ∀ (H : Heap) (locs : List Loc), Wo Γ A s H locs (bs.set b [(a, .inl (Γ.2.1 6, n, .inr (.inr (.inr (.inr (va_up f i.toNatClampNeg (some v)))))))]) → W p l e R s m args below meth c H locs cells slots Q (F0 m (pc + 1) ls rest)) : W p l e R s m args below meth c H locs cells slots Q (F0 m pc ls (.ref v :: .int i :: .ref a :: rest)) := by
  obtain ⟨q0, hq0, hw⟩ := fl_wr (i := 0) Y hb rfl
  exact va_astqM X.1 X.2.1 X.2.2.2.2.2.1.1 Y.1 Y.2.1 Y.2.2 q0 6 hq0 rfl hr hin d (fun H1 locs1 hP hD hS => kk H1 locs1 (hw _ H1 locs1 hP hS))
theorem ar_len {x : vp_A} (X : Fx Γ p c cc nL s m args own A) (Y : Wo Γ A s H locs bs) (b : Nat) {t : Nat} (hb : bs[b]? = some [(a, .inl (Γ.2.1 t, x))]) {fty : FieldType} (ht : (tysG Γ)[t]? = some (Γ.2.1 t, fty)) (d : decode cc pc = .ok (.arraylength, 1))
    (kk : W p l e R s m args below meth c H locs cells slots Q (F0 m (pc + 1) ls (.int (nI x.1) :: rest))) : W p l e R s m args below meth c H locs cells slots Q (F0 m pc ls (.ref a :: rest)) := by
  obtain ⟨q0, hq0⟩ := ar_mem hb
  exact va_alen X.1 X.2.1 X.2.2.2.2.2.1.1 Y.1 q0 t hq0 ht rfl d kk
theorem ar_new0 (X : Fx Γ p c cc nL s m args own A) (Y : Wo Γ A s H locs bs) {n : Int32} {N : Nat} (hn : ¬ n < 0) (hN : n.toNatClampNeg = N) (hsz : N ≤ 65536) (hc : cells + 1 ≤ R.cells) (hs : slots + N ≤ R.slots) (d : decode cc pc = .ok (.newarray .int, 2))
    (kk : ∀ (q : Nat) (H : Heap), Wo Γ A s H locs (bs ++ [[(q, .inl (Γ.2.1 0, N, .inl (fun _ => 0)))]]) → W p l e R s m args below meth c H locs (cells + 1) (slots + N) Q (F0 m (pc + 2) ls (.ref q :: rest))) : W p l e R s m args below meth c H locs cells slots Q (F0 m pc ls (.int n :: rest)) := by
  refine va_newa (atype := .int) (ty := .int) (a0 := (N, .inl (fun _ => 0))) X.1 X.2.1 (X.2.2.2.2.1 _ q344) rfl X.2.2.2.2.2.1.1 Y.1 Y.2.1 Y.2.2 X.2.2.2.2.2.2 (fun cA => rfl) hn hN (by simp [componentBytes]; omega) hc hs d (fun q cA H1 hK hP hD hS => kk q H1 ?_)
  have h1 := (hK.2 7 (cA, .int) rfl).2
  have h2 := (hK.2 0 (Γ.2.1 0, .int) rfl).2
  have he : cA = Γ.2.1 0 := Option.some.inj ((show s.vm.findClass _ = some cA from h1).symm.trans (show s.vm.findClass _ = some (Γ.2.1 0) from h2))
  subst he
  exact ⟨by rw [← za_snoc]; exact hP, by rw [← za_snoc]; exact hD, hS⟩
theorem ar_new1 (X : Fx Γ p c cc nL s m args own A) (Y : Wo Γ A s H locs bs) {n : Int32} {N : Nat} (hn : ¬ n < 0) (hN : n.toNatClampNeg = N) (hsz : N ≤ 65536) (hc : cells + 1 ≤ R.cells) (hs : slots + N ≤ R.slots) (d : decode cc pc = .ok (.newarray .char, 2))
    (kk : ∀ (q : Nat) (H : Heap), Wo Γ A s H locs (bs ++ [[(q, .inl (Γ.2.1 1, N, .inl (fun _ => 0)))]]) → W p l e R s m args below meth c H locs (cells + 1) (slots + N) Q (F0 m (pc + 2) ls (.ref q :: rest))) : W p l e R s m args below meth c H locs cells slots Q (F0 m pc ls (.int n :: rest)) := by
  refine va_newa (atype := .char) (ty := .char) (a0 := (N, .inl (fun _ => 0))) X.1 X.2.1 (X.2.2.2.2.1 _ q343) rfl X.2.2.2.2.2.1.1 Y.1 Y.2.1 Y.2.2 X.2.2.2.2.2.2 (fun cA => rfl) hn hN (by simp [componentBytes]; omega) hc hs d (fun q cA H1 hK hP hD hS => kk q H1 ?_)
  have h1 := (hK.2 7 (cA, .char) rfl).2
  have h2 := (hK.2 1 (Γ.2.1 1, .char) rfl).2
  have he : cA = Γ.2.1 1 := Option.some.inj ((show s.vm.findClass _ = some cA from h1).symm.trans (show s.vm.findClass _ = some (Γ.2.1 1) from h2))
  subst he
  exact ⟨by rw [← za_snoc]; exact hP, by rw [← za_snoc]; exact hD, hS⟩
theorem ar_new2 (X : Fx Γ p c cc nL s m args own A) (Y : Wo Γ A s H locs bs) {n : Int32} {N : Nat} (hn : ¬ n < 0) (hN : n.toNatClampNeg = N) (hsz : N ≤ 65536) (hc : cells + 1 ≤ R.cells) (hs : slots + N ≤ R.slots) (d : decode cc pc = .ok (.newarray .boolean, 2))
    (kk : ∀ (q : Nat) (H : Heap), Wo Γ A s H locs (bs ++ [[(q, .inl (Γ.2.1 2, N, .inl (fun _ => 0)))]]) → W p l e R s m args below meth c H locs (cells + 1) (slots + N) Q (F0 m (pc + 2) ls (.ref q :: rest))) : W p l e R s m args below meth c H locs cells slots Q (F0 m pc ls (.int n :: rest)) := by
  refine va_newa (atype := .boolean) (ty := .boolean) (a0 := (N, .inl (fun _ => 0))) X.1 X.2.1 (X.2.2.2.2.1 _ q395) rfl X.2.2.2.2.2.1.1 Y.1 Y.2.1 Y.2.2 X.2.2.2.2.2.2 (fun cA => rfl) hn hN (by simp [componentBytes]; omega) hc hs d (fun q cA H1 hK hP hD hS => kk q H1 ?_)
  have h1 := (hK.2 7 (cA, .boolean) rfl).2
  have h2 := (hK.2 2 (Γ.2.1 2, .boolean) rfl).2
  have he : cA = Γ.2.1 2 := Option.some.inj ((show s.vm.findClass _ = some cA from h1).symm.trans (show s.vm.findClass _ = some (Γ.2.1 2) from h2))
  subst he
  exact ⟨by rw [← za_snoc]; exact hP, by rw [← za_snoc]; exact hD, hS⟩
theorem ar_new3 (X : Fx Γ p c cc nL s m args own A) (Y : Wo Γ A s H locs bs) {n : Int32} {N : Nat} (hn : ¬ n < 0) (hN : n.toNatClampNeg = N) (hsz : N ≤ 65536) (hc : cells + 1 ≤ R.cells) (hs : slots + N ≤ R.slots) (d : decode cc pc = .ok (.newarray .byte, 2))
    (kk : ∀ (q : Nat) (H : Heap), Wo Γ A s H locs (bs ++ [[(q, .inl (Γ.2.1 3, N, .inl (fun _ => 0)))]]) → W p l e R s m args below meth c H locs (cells + 1) (slots + N) Q (F0 m (pc + 2) ls (.ref q :: rest))) : W p l e R s m args below meth c H locs cells slots Q (F0 m pc ls (.int n :: rest)) := by
  refine va_newa (atype := .byte) (ty := .byte) (a0 := (N, .inl (fun _ => 0))) X.1 X.2.1 (X.2.2.2.2.1 _ q296) rfl X.2.2.2.2.2.1.1 Y.1 Y.2.1 Y.2.2 X.2.2.2.2.2.2 (fun cA => rfl) hn hN (by simp [componentBytes]; omega) hc hs d (fun q cA H1 hK hP hD hS => kk q H1 ?_)
  have h1 := (hK.2 7 (cA, .byte) rfl).2
  have h2 := (hK.2 3 (Γ.2.1 3, .byte) rfl).2
  have he : cA = Γ.2.1 3 := Option.some.inj ((show s.vm.findClass _ = some cA from h1).symm.trans (show s.vm.findClass _ = some (Γ.2.1 3) from h2))
  subst he
  exact ⟨by rw [← za_snoc]; exact hP, by rw [← za_snoc]; exact hD, hS⟩
theorem ar_new4 (X : Fx Γ p c cc nL s m args own A) (Y : Wo Γ A s H locs bs) {n : Int32} {N : Nat} (hn : ¬ n < 0) (hN : n.toNatClampNeg = N) (hsz : N ≤ 65536) (hc : cells + 1 ≤ R.cells) (hs : slots + N ≤ R.slots) (d : decode cc pc = .ok (.newarray .long, 2))
    (kk : ∀ (q : Nat) (H : Heap), Wo Γ A s H locs (bs ++ [[(q, .inl (Γ.2.1 4, N, .inr (.inl (fun _ => 0))))]]) → W p l e R s m args below meth c H locs (cells + 1) (slots + N) Q (F0 m (pc + 2) ls (.ref q :: rest))) : W p l e R s m args below meth c H locs cells slots Q (F0 m pc ls (.int n :: rest)) := by
  refine va_newa (atype := .long) (ty := .long) (a0 := (N, .inr (.inl (fun _ => 0)))) X.1 X.2.1 (X.2.2.2.2.1 _ q3729) rfl X.2.2.2.2.2.1.1 Y.1 Y.2.1 Y.2.2 X.2.2.2.2.2.2 (fun cA => rfl) hn hN (by simp [componentBytes]; omega) hc hs d (fun q cA H1 hK hP hD hS => kk q H1 ?_)
  have h1 := (hK.2 7 (cA, .long) rfl).2
  have h2 := (hK.2 4 (Γ.2.1 4, .long) rfl).2
  have he : cA = Γ.2.1 4 := Option.some.inj ((show s.vm.findClass _ = some cA from h1).symm.trans (show s.vm.findClass _ = some (Γ.2.1 4) from h2))
  subst he
  exact ⟨by rw [← za_snoc]; exact hP, by rw [← za_snoc]; exact hD, hS⟩
theorem ar_new5 (X : Fx Γ p c cc nL s m args own A) (Y : Wo Γ A s H locs bs) {n : Int32} {N : Nat} (hn : ¬ n < 0) (hN : n.toNatClampNeg = N) (hsz : N ≤ 65536) (hc : cells + 1 ≤ R.cells) (hs : slots + N ≤ R.slots) (d : decode cc pc = .ok (.newarray .double, 2))
    (kk : ∀ (q : Nat) (H : Heap), Wo Γ A s H locs (bs ++ [[(q, .inl (Γ.2.1 5, N, .inr (.inr (.inr (.inl (fun _ => FP.dconst0))))))]]) → W p l e R s m args below meth c H locs (cells + 1) (slots + N) Q (F0 m (pc + 2) ls (.ref q :: rest))) : W p l e R s m args below meth c H locs cells slots Q (F0 m pc ls (.int n :: rest)) := by
  refine va_newa (atype := .double) (ty := .double) (a0 := (N, .inr (.inr (.inr (.inl (fun _ => FP.dconst0)))))) X.1 X.2.1 (X.2.2.2.2.1 _ q3730) rfl X.2.2.2.2.2.1.1 Y.1 Y.2.1 Y.2.2 X.2.2.2.2.2.2 (fun cA => rfl) hn hN (by simp [componentBytes]; omega) hc hs d (fun q cA H1 hK hP hD hS => kk q H1 ?_)
  have h1 := (hK.2 7 (cA, .double) rfl).2
  have h2 := (hK.2 5 (Γ.2.1 5, .double) rfl).2
  have he : cA = Γ.2.1 5 := Option.some.inj ((show s.vm.findClass _ = some cA from h1).symm.trans (show s.vm.findClass _ = some (Γ.2.1 5) from h2))
  subst he
  exact ⟨by rw [← za_snoc]; exact hP, by rw [← za_snoc]; exact hD, hS⟩
/-! references that may be null -/
theorem op_aload_n (hx : p.tables.exec = Jvm.exec) (hb : c.code = cc) {k : Fin 4} {i : Nat} {x : Option Nat} (d : decode cc pc = .ok (.aload_n k, 1)) (hi : (k : Nat) = i) (hl : ls[i]? = some (.val (va_rf x)))
    (kk : W p l e R s m args below meth c H locs cells slots Q (F0 m (pc + 1) ls (va_rf x :: rest))) : W p l e R s m args below meth c H locs cells slots Q (F0 m pc ls rest) := by
  cases x with
  | none => exact lv_aload_nN hx hb d hi hl kk
  | some y => exact lv_aload_n hx hb d hi hl kk
theorem op_aload (hx : p.tables.exec = Jvm.exec) (hb : c.code = cc) {i : Nat} {x : Option Nat} (d : decode cc pc = .ok (.aload i, 2)) (hl : ls[i]? = some (.val (va_rf x)))
    (kk : W p l e R s m args below meth c H locs cells slots Q (F0 m (pc + 2) ls (va_rf x :: rest))) : W p l e R s m args below meth c H locs cells slots Q (F0 m pc ls rest) := by
  cases x with
  | none => exact lv_aloadN hx hb d hl kk
  | some y => exact lv_aload hx hb d hl kk
theorem op_astore_n (hx : p.tables.exec = Jvm.exec) (hb : c.code = cc) {k : Fin 4} {i nL : Nat} {x : Option Nat} {lv lv' : List (Nat × Value)} (d : decode cc pc = .ok (.astore_n k, 1)) (hi : (k : Nat) = i) (h : lv_has ls nL lv) (hn : i < nL) (hl : (i, va_rf x) :: lv.filter (fun q => !(q.1 == i) && !(q.1 + 1 == i && q.2.category == 2)) = lv')
    (kk : ∀ ls' : Array Slot, lv_has ls' nL lv' → W p l e R s m args below meth c H locs cells slots Q (F0 m (pc + 1) ls' rest)) : W p l e R s m args below meth c H locs cells slots Q (F0 m pc ls (va_rf x :: rest)) := by
  cases x with
  | none => exact lv_astore_nN hx hb d hi h hn hl kk
  | some y => exact lv_astore_n hx hb d hi h hn hl kk
theorem op_astore (hx : p.tables.exec = Jvm.exec) (hb : c.code = cc) {i nL : Nat} {x : Option Nat} {lv lv' : List (Nat × Value)} (d : decode cc pc = .ok (.astore i, 2)) (h : lv_has ls nL lv) (hn : i < nL) (hl : (i, va_rf x) :: lv.filter (fun q => !(q.1 == i) && !(q.1 + 1 == i && q.2.category == 2)) = lv')
    (kk : ∀ ls' : Array Slot, lv_has ls' nL lv' → W p l e R s m args below meth c H locs cells slots Q (F0 m (pc + 2) ls' rest)) : W p l e R s m args below meth c H locs cells slots Q (F0 m pc ls (va_rf x :: rest)) := by
  cases x with
  | none => exact lv_astoreN hx hb d h hn hl kk
  | some y => exact lv_astore hx hb d h hn hl kk
theorem op_nar {C : String} (x : Option Nat) : narrow (.object C) (va_rf x) = va_rf x := by cases x <;> rfl
theorem op_fit {C : String} (x : Option Nat) : fits (.object C) (va_rf x) = true := by cases x <;> rfl
theorem op_narA {t : FieldType} (x : Option Nat) : narrow (.array t) (va_rf x) = va_rf x := by cases x <;> rfl
theorem op_fitA {t : FieldType} (x : Option Nat) : fits (.array t) (va_rf x) = true := by cases x <;> rfl
theorem va_rf_cat (x : Option Nat) : (va_rf x).category = 1 := by cases x <;> rfl
/-! pools: all objects of a class that belong together -/
theorem pl_mem {L : List Nat} {f : Nat → va_E} {b : Nat} (hb : bs[b]? = some (va_pl L f)) (h : a ∈ L) : (a, f a) ∈ bs.flatten := za_mem hb (List.mem_map.mpr ⟨a, h, rfl⟩)
theorem pl_get {L : List Nat} {f : Nat → va_E} (X : Fx Γ p c cc nL s m args own A) (Y : Wo Γ A s H locs bs) (b : Nat) (hb : bs[b]? = some (va_pl L f)) (F : FC ci C T ty N) (h : a ∈ L) (hf : f a = .inr (ci, fs)) (k : Nat) (hN : k < N) {index : Nat} (hl : (Cond.fieldLink own index (T k).1 (T k).2.1 (T k).2.2.1).before args s = true) {v : Value} (hv : fs[k]? = some v) (d : decode cc pc = .ok (.getfield index, 3))
    (kk : W p l e R s m args below meth c H locs cells slots Q (F0 m (pc + 3) ls (v :: rest))) : W p l e R s m args below meth c H locs cells slots Q (F0 m pc ls (.ref a :: rest)) := by
  obtain ⟨q0, hq0⟩ := List.getElem?_of_mem (pl_mem hb h)
  rw [hf] at hq0
  exact va_get X.1 X.2.1 X.2.2.2.2.1 F.2.1 X.2.2.2.1 X.2.2.2.2.2.1.1 Y.1 q0 hq0 F.1 k hN hl (fun _ h => h) hv d kk
theorem pl_wr {L : List Nat} {f : Nat → va_E} (Y : Wo Γ A s H locs bs) {b : Nat} (hb : bs[b]? = some (va_pl L f)) (h : a ∈ L) :
    ∃ q0 : Nat, bs.flatten[q0]? = some (a, f a) ∧ ∀ (e : va_E) (H1 : Heap) (locs1 : List Loc), va_P Γ.1 clA (bs.flatten.set q0 (a, e)) H1 → va_S A s.heap H1 locs1 → Wo Γ A s H1 locs1 (bs.set b (va_pl L (va_up f a e))) := by
  obtain ⟨i, hi⟩ := List.getElem?_of_mem h
  have hi2 : (va_pl L f)[i]? = some (a, f a) := by rw [va_pl, List.getElem?_map, hi]; rfl
  obtain ⟨q0, h1, h2⟩ := fl_wr Y hb hi2
  refine ⟨q0, h1, fun e H1 locs1 hP hS => ?_⟩
  have h3 := h2 e H1 locs1 hP hS
  have hn : L.Nodup := by
    have := za_nodB (za_D.mp Y.2.1).1 hb
    rwa [va_pl, List.map_map, show (Prod.fst ∘ fun a => (a, f a)) = id from rfl, List.map_id] at this
  have e3 : (va_pl L f).set i (a, e) = va_pl L (va_up f a e) := by
    refine List.ext_getElem? fun j => ?_
    have hil := (List.getElem?_eq_some_iff.mp hi).1
    by_cases hj : i = j
    · subst hj
      rw [List.getElem?_set_self (by simpa [va_pl] using hil), va_pl, List.getElem?_map, hi]
      simp [va_up]
    · rw [List.getElem?_set_ne hj, va_pl, va_pl, List.getElem?_map, List.getElem?_map]
      cases hLj : L[j]? with
      | none => rfl
      | some x =>
        have hx : x ≠ a := by
          intro hxa
          subst hxa
          rw [List.nodup_iff_pairwise_ne, List.pairwise_iff_getElem] at hn
          obtain ⟨g1, g2⟩ := List.getElem?_eq_some_iff.mp hi
          obtain ⟨g3, g4⟩ := List.getElem?_eq_some_iff.mp hLj
          rcases Nat.lt_trichotomy i j with h | h | h
          · exact hn i j g1 g3 h (g2.trans g4.symm)
          · exact hj h
          · exact hn j i g3 g1 h (g4.trans g2.symm)
        simp [va_up, hx]
  rw [e3] at h3
  exact h3
/-! texts that are known outside the world: their cells are read, never written -/
abbrev eS (a v n : Nat) (f : Nat → Int32) : eT := fun A U => va_O "java/lang/String" a A U U.heap ∧ va_OF "java/lang/String" "coder" "B" (.int 0) a A U U.heap ∧ va_OF "java/lang/String" "value" "[B" (.ref v) a A U U.heap ∧ va_T .byte v n (fun j => .int (f j)) A U U.heap
def eR (a v n : Nat) (f : Nat → Int32) : eT := eS a v n f
def eA (E F : eT) : eT := fun A U => E A U ∧ F A U
/-- what is known stays known in a callee -/
def ETr (E : eT) : Prop := ∀ (A A1 : Nat → Prop) (s U : State) (H : Heap) (locs : List Loc), E A s → va_S A s.heap H locs → (∀ q, A1 q → A q) → U.heap = H → s.WarmedH U.vm → E A1 U
theorem eA_bl {E F : eT} (h : EBl E) (g : EBl F) : EBl (eA E F) := fun A U V h1 h2 x => ⟨h A U V h1 h2 x.1, g A U V h1 h2 x.2⟩
theorem eA_tr {E F : eT} (h : ETr E) (g : ETr F) : ETr (eA E F) := fun A A1 s U H locs x hS hA hU hW => ⟨h A A1 s U H locs x.1 hS hA hU hW, g A A1 s U H locs x.2 hS hA hU hW⟩
theorem E0_tr : ETr E0 := fun _ _ _ _ _ _ _ _ _ _ _ => trivial
theorem va_alike {U V : State} (h : U.vm = V.vm) : U.vm.Alike V.vm := by rw [h]; exact Vm.Alike.refl _
theorem eR_bl {a v n : Nat} {f : Nat → Int32} : EBl (eR a v n f) := fun A U V h1 h2 x => by
  obtain ⟨x1, x2, x3, x4⟩ := x
  have hv := va_alike h2
  rw [h1] at x1 x2 x3 x4
  exact ⟨x1.moved hv, x2.moved hv, x3.moved hv, x4.moved hv⟩
theorem eR_tr {a v n : Nat} {f : Nat → Int32} : ETr (eR a v n f) := fun A A1 s U H locs x hS hA hU hW => by
  obtain ⟨x1, x2, x3, x4⟩ := x
  subst hU
  exact ⟨((x1.kept hS.2.1).narrow hA).moved hW.alike, ((x2.kept hS.2.1).narrow hA).moved hW.alike, ((x3.kept hS.2.1).narrow hA).moved hW.alike, ((x4.kept hS.2.1).narrow hA).moved hW.alike⟩
/-- at a call -/
theorem ETr.at {E : eT} (hT : ETr E) {w0 : bW} (X : Fx Γ p c cc nL s m args own A) (hE : E A s) (Y : Wo Γ A s H locs bs) (is rs : List Nat) (h1 : pk bs is = w0) (h3 : pkOk (is ++ rs) bs.length = true) : ∀ U : State, U.heap = H → s.WarmedH U.vm → E (va_A w0.flatten H.size) U :=
  fun U hU hW => hT A _ s U H locs hE Y.2.2 (za_in X Y is rs h1 h3) hU hW
theorem ro_ald {v n : Nat} {f : Nat → Int32} (X : Fx Γ p c cc nL s m args own A) (Y : Wo Γ A s H locs bs) (h : va_T .byte v n (fun j => .int (f j)) A s s.heap) {i : Int32} (hin : vp_in i n) (d : decode cc pc = .ok (.baload, 1))
    (kk : W p l e R s m args below meth c H locs cells slots Q (F0 m (pc + 1) ls (.int (f i.toNatClampNeg) :: rest))) : W p l e R s m args below meth c H locs cells slots Q (F0 m pc ls (.int i :: .ref v :: rest)) :=
  va_tb X.1 X.2.1 h Y.2.2 hin rfl d kk
theorem ro_len {v n : Nat} {f : Nat → Int32} (X : Fx Γ p c cc nL s m args own A) (Y : Wo Γ A s H locs bs) (h : va_T .byte v n (fun j => .int (f j)) A s s.heap) (d : decode cc pc = .ok (.arraylength, 1))
    (kk : W p l e R s m args below meth c H locs cells slots Q (F0 m (pc + 1) ls (.int (nI n) :: rest))) : W p l e R s m args below meth c H locs cells slots Q (F0 m pc ls (.ref v :: rest)) :=
  va_tlen X.1 X.2.1 h Y.2.2 rfl d kk
theorem ro_recv {v n : Nat} {f : Nat → Int32} (Y : Wo Γ A s H locs bs) (h : eR a v n f A s) : ∃ cell : Cell, H[a]? = some cell ∧ cell.vm.isStatics = false ∧ s.vm.findClass "java/lang/String" = some cell.cls := by
  obtain ⟨cell, h1, h2, h3, -⟩ := h.1.kept Y.2.2.2.1
  exact ⟨cell, h1, h2, h3⟩
theorem ob_recv {b : Nat} (hb : bs[b]? = some [(a, .inr (ci, fs))]) (F : FC ci C T ty N) : ∃ (ci : Nat) (fs : List Value) (q : vw_C), (a, .inr (ci, fs)) ∈ bs.flatten ∧ clA[ci]? = some q ∧ q.1 = C :=
  ⟨ci, fs, _, za_mem hb List.mem_cons_self, F.1, rfl⟩
theorem mb_recv {B : va_W} {b : Nat} (hb : bs[b]? = some B) (hm : (a, .inr (ci, fs)) ∈ B) (F : FC ci C T ty N) : ∃ (ci : Nat) (fs : List Value) (q : vw_C), (a, .inr (ci, fs)) ∈ bs.flatten ∧ clA[ci]? = some q ∧ q.1 = C :=
  ⟨ci, fs, _, za_mem hb hm, F.1, rfl⟩
end ROW2
section CPY
variable {Γ : gT} {p : Program} {l : Launch} {e : Env} {R : Room} {s : State} {m : MethodId} {args : Array Value} {below : List Frame} {meth : Method} {c : Code} {H : Heap} {locs : List Loc} {cells slots : Nat} {Q : State → Prop} {cc : ByteArray} {pc : Nat} {ls : Array Slot} {rest : List Value} {A : Nat → Prop} {own : String} {nL : Nat} {bs : bW}
/-- where an array of numbers stands in the world, and how the world is with it written -/
def arAt (Γ : gT) (A : Nat → Prop) (s : State) (H : Heap) (bs : bW) (t a n : Nat) (f : Nat → Int32) (bs1 : (Nat → Int32) → bW) : Prop :=
  ∃ q0 : Nat, bs.flatten[q0]? = some (a, .inl (Γ.2.1 t, n, .inl f)) ∧ ∀ (f' : Nat → Int32) (H1 : Heap) (locs1 : List Loc), va_P Γ.1 clA (bs.flatten.set q0 (a, .inl (Γ.2.1 t, n, .inl f'))) H1 → va_S A s.heap H1 locs1 → Wo Γ A s H1 locs1 (bs1 f')
theorem arAt_ar (Y : Wo Γ A s H locs bs) (b : Nat) {t a n : Nat} {f : Nat → Int32} (hb : bs[b]? = some [(a, .inl (Γ.2.1 t, n, .inl f))]) : arAt Γ A s H bs t a n f (fun f' => bs.set b [(a, .inl (Γ.2.1 t, n, .inl f'))]) := by
  obtain ⟨q0, h1, h2⟩ := fl_wr (i := 0) Y hb rfl
  exact ⟨q0, h1, fun f' H1 locs1 hP hS => h2 _ H1 locs1 hP hS⟩
theorem arAt_fl (Y : Wo Γ A s H locs bs) (b : Nat) {ci : Nat} {sh : shT} {o : Nat} {ad : Nat → Nat} {τ : flT} (hb : bs[b]? = some (flW Γ ci sh o ad τ)) (k : Nat) {t n : Nat} (hk : sh[k]? = some (10 + t, n)) : arAt Γ A s H bs t (ad k) n (τ.2.1 k) (fun f' => bs.set b (flW Γ ci sh o ad (τ.1, va_up τ.2.1 k f', τ.2.2))) :=
  fl_arr Y hb hk
theorem za_cpy {t : Nat} {ty : FieldType} (ht : (tysG Γ)[t]? = some (Γ.2.1 t, ty)) (hprim : refKind ty = false) (X : Fx Γ p c cc nL s m args own A) (Y : Wo Γ A s H locs bs) {a0 a n0 n1 : Nat} {f g : Nat → Int32} {bs0 bs1 : (Nat → Int32) → bW} (h0 : arAt Γ A s H bs t a0 n0 f bs0) (h1 : arAt Γ A s H bs t a n1 g bs1) {index : Nat} (hlink : Cond.methodLink own index arraycopyName ∈ lw_all) (hnat : Cond.native arraycopyName ∈ lw_all) (hstat : Cond.static arraycopyName ∈ lw_all) (hini : Cond.initialized "java/lang/System" ∈ lw_all) (hls : ls.size = nL)
    {sp dp n : Int32} (g1 : ¬ sp < 0) (g2 : ¬ dp < 0) (g3 : ¬ n < 0) (g4 : sp.toNatClampNeg + n.toNatClampNeg ≤ n0) (g5 : dp.toNatClampNeg + n.toNatClampNeg ≤ n1) (hfit : ∀ i : Nat, i < n.toNatClampNeg → fits ty (.int (f (sp.toNatClampNeg + i))) = true)
    (hframes : 1 ≤ R.frames) (hlocals : (rest.map fun v => v.category).sum + (nativeFrameWords "java/lang/System" "arraycopy" 5 + 11) ≤ R.locals) (d : decode cc pc = .ok (.invokestatic index, 3))
    (kk : ∀ (H : Heap) (locs : List Loc), Wo Γ A s H locs (bs1 (va_cpy f g sp.toNatClampNeg dp.toNatClampNeg n.toNatClampNeg)) → W p l e R s m args below meth c H locs cells slots Q (F0 m (pc + 3) ls rest)) : W p l e R s m args below meth c H locs cells slots Q (F0 m pc ls (.int n :: .int dp :: .ref a :: .int sp :: .ref a0 :: rest)) := by
  obtain ⟨q0, hq0, -⟩ := h0
  obtain ⟨q1, hq1, hw⟩ := h1
  exact va_copyi X.1 X.2.1 (X.2.2.1.trans hls.symm) X.2.2.2.1 (X.2.2.2.2.1 _ hlink) (X.2.2.2.2.1 _ hnat) (X.2.2.2.2.1 _ hstat) (X.2.2.2.2.1 _ hini) X.2.2.2.2.2.1.1 Y.1 Y.2.1 Y.2.2 q0 q1 t t hq0 hq1 ht ht hprim g1 g2 g3 g4 g5 hfit hframes hlocals d (fun H1 locs1 hP hD hS => kk H1 locs1 (hw _ H1 locs1 hP hS))
theorem ro_cpy (X : Fx Γ p c cc nL s m args own A) (Y : Wo Γ A s H locs bs) {v n0 a n1 : Nat} {f g : Nat → Int32} {bs1 : (Nat → Int32) → bW} (h0 : va_T .byte v n0 (fun j => .int (f j)) A s s.heap) (h1 : arAt Γ A s H bs 3 a n1 g bs1) {index : Nat} (hlink : Cond.methodLink own index arraycopyName ∈ lw_all) (hnat : Cond.native arraycopyName ∈ lw_all) (hstat : Cond.static arraycopyName ∈ lw_all) (hini : Cond.initialized "java/lang/System" ∈ lw_all) (hls : ls.size = nL)
    {sp dp n : Int32} (g1 : ¬ sp < 0) (g2 : ¬ dp < 0) (g3 : ¬ n < 0) (g4 : sp.toNatClampNeg + n.toNatClampNeg ≤ n0) (g5 : dp.toNatClampNeg + n.toNatClampNeg ≤ n1) (hfit : ∀ i : Nat, i < n.toNatClampNeg → fits .byte (.int (f (sp.toNatClampNeg + i))) = true)
    (hframes : 1 ≤ R.frames) (hlocals : (rest.map fun v => v.category).sum + (nativeFrameWords "java/lang/System" "arraycopy" 5 + 11) ≤ R.locals) (d : decode cc pc = .ok (.invokestatic index, 3))
    (kk : ∀ (H : Heap) (locs : List Loc), Wo Γ A s H locs (bs1 (va_cpy f g sp.toNatClampNeg dp.toNatClampNeg n.toNatClampNeg)) → W p l e R s m args below meth c H locs cells slots Q (F0 m (pc + 3) ls rest)) : W p l e R s m args below meth c H locs cells slots Q (F0 m pc ls (.int n :: .int dp :: .ref a :: .int sp :: .ref v :: rest)) := by
  obtain ⟨q1, hq1, hw⟩ := h1
  exact vk_copyt X.1 X.2.1 (X.2.2.1.trans hls.symm) X.2.2.2.1 (X.2.2.2.2.1 _ hlink) (X.2.2.2.2.1 _ hnat) (X.2.2.2.2.1 _ hstat) (X.2.2.2.2.1 _ hini) X.2.2.2.2.2.1.1 Y.1 Y.2.1 Y.2.2 h0 q1 3 hq1 rfl g1 g2 g3 g4 g5 hfit hframes hlocals d (fun H1 locs1 hP hD hS => kk H1 locs1 (hw _ H1 locs1 hP hS))
end CPY
