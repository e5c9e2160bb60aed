set_option maxRecDepth 100000
/-! contracts of methods that may throw: K for a return, KX for an end by an exception (its class, its object, the world then) -/
def xX (Γ : gT) (A : Nat → Prop) (KX : String → Nat → bW → Prop) : String → Addr → State → State → Prop := vx_X (S := String × Nat × bW) (fun u => KX u.1 u.2.1 u.2.2) (fun E q u t => u.1 = E ∧ u.2.1 = q ∧ va_P Γ.1 clA u.2.2.flatten t.heap ∧ va_D A u.2.2.flatten) A
def xI (Γ : gT) (l : Launch) (y : MethodName) (ws : List Cond) (rm : Room) (E : eT) (av : List Value) (w0 : bW) {S : Type} (w1 : S → bW) (K : Int32 → S → Prop) (KX : String → Nat → bW → Prop) : Prop := ∀ sz : Nat, vx_Met l y ws rm (cPc Γ E av w0 sz) (va_Qi K (cB Γ (va_A w0.flatten sz) w1) (va_A w0.flatten sz)) (xX Γ (va_A w0.flatten sz) KX) rm.cells rm.slots (va_A w0.flatten sz)
def xV (Γ : gT) (l : Launch) (y : MethodName) (ws : List Cond) (rm : Room) (E : eT) (av : List Value) (w0 : bW) {S : Type} (w1 : S → bW) (K : S → Prop) (KX : String → Nat → bW → Prop) : Prop := ∀ sz : Nat, vx_Met l y ws rm (cPc Γ E av w0 sz) (va_Qv K (cB Γ (va_A w0.flatten sz) w1) (va_A w0.flatten sz)) (xX Γ (va_A w0.flatten sz) KX) rm.cells rm.slots (va_A w0.flatten sz)
def xJ (Γ : gT) (l : Launch) (y : MethodName) (ws : List Cond) (rm : Room) (E : eT) (av : List Value) (w0 : bW) {S : Type} (w1 : S → bW) (K : Int64 → S → Prop) (KX : String → Nat → bW → Prop) : Prop := ∀ sz : Nat, vx_Met l y ws rm (cPc Γ E av w0 sz) (va_Ql K (cB Γ (va_A w0.flatten sz) w1) (va_A w0.flatten sz)) (xX Γ (va_A w0.flatten sz) KX) rm.cells rm.slots (va_A w0.flatten sz)
def xD (Γ : gT) (l : Launch) (y : MethodName) (ws : List Cond) (rm : Room) (E : eT) (av : List Value) (w0 : bW) {S : Type} (w1 : S → bW) (K : UInt64 → S → Prop) (KX : String → Nat → bW → Prop) : Prop := ∀ sz : Nat, vx_Met l y ws rm (cPc Γ E av w0 sz) (va_Qd K (cB Γ (va_A w0.flatten sz) w1) (va_A w0.flatten sz)) (xX Γ (va_A w0.flatten sz) KX) rm.cells rm.slots (va_A w0.flatten sz)
def xF (Γ : gT) (l : Launch) (y : MethodName) (ws : List Cond) (rm : Room) (E : eT) (av : List Value) (w0 : bW) {S : Type} (w1 : S → bW) (K : UInt32 → S → Prop) (KX : String → Nat → bW → Prop) : Prop := ∀ sz : Nat, vx_Met l y ws rm (cPc Γ E av w0 sz) (va_Qf K (cB Γ (va_A w0.flatten sz) w1) (va_A w0.flatten sz)) (xX Γ (va_A w0.flatten sz) KX) rm.cells rm.slots (va_A w0.flatten sz)
def xR (Γ : gT) (l : Launch) (y : MethodName) (ws : List Cond) (rm : Room) (E : eT) (av : List Value) (w0 : bW) {S : Type} (w1 : S → bW) (K : Option Nat → S → Prop) (KX : String → Nat → bW → Prop) : Prop := ∀ sz : Nat, vx_Met l y ws rm (cPc Γ E av w0 sz) (va_Qq K (cB Γ (va_A w0.flatten sz) w1) (va_A w0.flatten sz)) (xX Γ (va_A w0.flatten sz) KX) rm.cells rm.slots (va_A w0.flatten sz)
abbrev wh_ (y : MethodName) (b : ByteArray) (L : Nat) (r : Option FieldType) (hh : List (Nat × Nat × Nat × Nat)) : List Cond := Cond.codeWith y b L r hh :: lw_all
/-- the thrown object's cell -/
def xcell (s : State) (H : Heap) (E : String) (q : Nat) : Prop := ∃ ce : Cell, H[q]? = some ce ∧ ce.vm = .none ∧ s.vm.findClass E = some ce.cls
section XCON
variable {Γ : gT} {p : Program} {l : Launch} {e : Env} {R : Room} {s : State} {m : MethodId} {args : Array Value} {below : List Frame} {meth : Method} {c : Code} {H : Heap} {locs : List Loc} {cells slots : Nat} {Q : State → Prop} {cc : ByteArray} {pc : Nat} {ls : Array Slot} {rest st0 : List Value} {A : Nat → Prop} {own : String} {nL : Nat} {bs w0 wr : bW} {E : eT} {S : Type} {w1 : S → bW} {y : MethodName} {ws : List Cond} {rm : Room} {av As : List Value} {ret : Option FieldType} {mc ms : Nat} {hh : List (Nat × Nat × Nat × Nat)} {KX : String → Nat → bW → Prop}
theorem xz_start {sz : Nat} {Qc : Array Value → State → Outcome → State → Prop} {XC : String → Addr → State → State → Prop} (hy : plainName y.cls = true) (hav : (lg_sl av).length ≤ nL)
    (body : ∀ (p : Program) (e : Env) (s : State) (m : MethodId) (below : List Frame) (meth : Method) (c : Code) (ls : Array Slot), s.heap.size = sz → Fx Γ p c cc nL s m av.toArray y.cls (va_A w0.flatten sz) → meth.sig.returnType = ret → meth.locks = false → meth.name = y.name → c.exceptionTable.toList = [] → E (va_A w0.flatten sz) s → Wo Γ (va_A w0.flatten sz) s s.heap [] w0 → lv_has ls nL (lv_args 0 av) →
      W p l e (headSpec (ws_ y cc nL ret) rm).room s m av.toArray below meth c s.heap [] 0 0 (vx_MQ below Qc XC av.toArray s mc ms (va_A w0.flatten sz)) (F0 m 0 ls [])) : vx_Met l y (ws_ y cc nL ret) rm (cPc Γ E av w0 sz) Qc XC mc ms (va_A w0.flatten sz) := by
  refine vx_ofW (cc := cc) (maxL := nL) (ret := ret) hy rfl ?_
  intro p e s m args below meth c s₁ B hml ht hv
  obtain ⟨rfl, hsz, hP, hD, hG, hE⟩ := hv
  have hts := atoms_spec (ws := ws_ y cc nL ret) B.pre
  have hts : ∀ w ∈ lw_all, w.before _ s = true := fun w h => hts w (List.mem_cons_of_mem _ h)
  rw [lg_entry_eq]
  exact body p e s m below meth c _ hsz ⟨B.exec, B.bytes, hml, findClass_of_methodNamed B.named, hts, hG, fun q h => Or.inr (by rw [← hsz]; exact h)⟩ B.returns B.notSynchronized (name_of_methodNamed B.named B.method).1 (List.eq_nil_iff_forall_not_mem.mpr ht) hE ⟨hP, hD.self, va_S.rf⟩ (lv_entry av hav)
theorem xz_startW {sz : Nat} {Qc : Array Value → State → Outcome → State → Prop} {XC : String → Addr → State → State → Prop} (hy : plainName y.cls = true) (hav : (lg_sl av).length ≤ nL)
    (body : ∀ (p : Program) (e : Env) (s : State) (m : MethodId) (below : List Frame) (meth : Method) (c : Code) (ls : Array Slot), s.heap.size = sz → Fx Γ p c cc nL s m av.toArray y.cls (va_A w0.flatten sz) → meth.sig.returnType = ret → meth.locks = false → meth.name = y.name → c.exceptionTable.toList = tableOf hh → E (va_A w0.flatten sz) s → Wo Γ (va_A w0.flatten sz) s s.heap [] w0 → lv_has ls nL (lv_args 0 av) →
      W p l e (headSpec (wh_ y cc nL ret hh) rm).room s m av.toArray below meth c s.heap [] 0 0 (vx_MQ below Qc XC av.toArray s mc ms (va_A w0.flatten sz)) (F0 m 0 ls [])) : vx_Met l y (wh_ y cc nL ret hh) rm (cPc Γ E av w0 sz) Qc XC mc ms (va_A w0.flatten sz) := by
  refine vx_ofWH (cc := cc) (maxL := nL) (ret := ret) (hh := hh) hy rfl ?_
  intro p e s m args below meth c s₁ B hml hv
  obtain ⟨rfl, hsz, hP, hD, hG, hE⟩ := hv
  have hts := atoms_spec (ws := wh_ y cc nL ret hh) B.pre
  have ht : c.exceptionTable.toList = tableOf hh := vx_table (x := y) B (hts _ List.mem_cons_self)
  have hts : ∀ w ∈ lw_all, w.before _ s = true := fun w h => hts w (List.mem_cons_of_mem _ h)
  rw [lg_entry_eq]
  exact body p e s m below meth c _ hsz ⟨B.exec, B.bytes, hml, findClass_of_methodNamed B.named, hts, hG, fun q h => Or.inr (by rw [← hsz]; exact h)⟩ B.returns B.notSynchronized (name_of_methodNamed B.named B.method).1 ht hE ⟨hP, hD.self, va_S.rf⟩ (lv_entry av hav)
theorem va_P_grow {D : va_G} {cl : List vw_C} {ws : va_W} {H H1 : Heap} (h : va_P D cl ws H) (hk : ∀ q : Nat, q < H.size → H1[q]? = H[q]?) : va_P D cl ws H1 := by
  intro k q hq
  have h1 := h k q hq
  have h2 := hk q.1 h1.lt
  obtain ⟨a, e⟩ := q
  cases e with
  | inl x =>
    have h1 : H[a]? = some (vp_cell x.1 x.2) := h1
    show H1[a]? = some (vp_cell x.1 x.2)
    rw [← h1]; exact h2
  | inr o =>
    obtain ⟨r, r1, r2⟩ := h1
    exact ⟨r, r1, r2.kept h2⟩
/-- it isn't caught here -/
theorem xo_out {ret' : Array Value → State → Outcome → State → Prop} {tb : List ExceptionTableEntry} {E : String} {q : Nat} (X : Fx Γ p c cc nL s m args own A) (Y : Wo Γ A s H locs bs) (ht : c.exceptionTable.toList = tb) (hlk : meth.locks = false) (hce : xcell s H E q) (hp : ∀ z ∈ tb, covers z pc = false ∨ (z.catchType ≠ 0 ∧ ∃ nm : String, (Cond.classLink own z.catchType nm).before args s = true ∧ va_Nc E nm s)) (hK : KX E q bs) (hc : cells ≤ mc) (hs : slots ≤ ms) :
    vx_W p l e R s m args below meth c H locs cells slots (vx_MQ below ret' (xX Γ A KX) args s mc ms A) (F0 m pc ls rest) q := by
  obtain ⟨ce, h1, h2, h3⟩ := hce
  refine vx_outP (own := own) (E := E) (ce := ce) X.2.2.2.1 hlk (by rw [ht]; exact hp) h1 h2 h3 (fun t ht2 hal => ?_) (fun z hz => Y.2.2.2.2 z hz) hc hs
  refine ⟨(E, q, bs), hK, ⟨rfl, rfl, by rw [ht2]; exact Y.1, Y.2.1⟩, ?_⟩
  refine ⟨by rw [ht2]; exact Y.2.2.1, fun q9 h9 h10 => by rw [ht2]; exact Y.2.2.2.1 q9 h9 h10⟩
/-- it is caught by the row x -/
theorem xo_catch {tb : List ExceptionTableEntry} {E name : String} {q : Nat} (X : Fx Γ p c cc nL s m args own A) (ht : c.exceptionTable.toList = tb) (hce : xcell s H E q) (pre : List ExceptionTableEntry) (x : ExceptionTableEntry) (suf : List ExceptionTableEntry) (hsp : tb = pre ++ x :: suf)
    (hp : ∀ z ∈ pre, covers z pc = false ∨ (z.catchType ≠ 0 ∧ ∃ nm : String, (Cond.classLink own z.catchType nm).before args s = true ∧ va_Nc E nm s)) (hx : covers x pc = true) (h0 : x.catchType ≠ 0)
    (hlink : (Cond.classLink own x.catchType name).before args s = true) (hcast : (Cond.castable E name).before args s = true) (kk : W p l e R s m args below meth c H locs cells slots Q (F0 m x.handlerPc ls [.ref q])) : vx_W p l e R s m args below meth c H locs cells slots Q (F0 m pc ls rest) q := by
  obtain ⟨ce, h1, h2, h3⟩ := hce
  exact vx_catch (own := own) (name := name) (E := E) (ce := ce) X.2.2.2.1 pre x suf (ht.trans hsp) hp hx h0 hlink hcast h1 h2 h3 kk
/-- 'throw new E()', not caught here -/
theorem xo_throw0 {ret' : Array Value → State → Outcome → State → Prop} {cls : String} {names : List String} {ik ic : Nat} (hl : l.stackTraces = false) (X : Fx Γ p c cc nL s m args own A) (Y : Wo Γ A s H locs bs) (hZ : eN Γ A s) (ht : c.exceptionTable.toList = []) (hlk : meth.locks = false) (hcls : Bundle.fit cls = true) (hnames : ∀ n ∈ names, Bundle.fit n = true)
    (hk : (Cond.classLink own ik cls).before args s = true) (hini : (Cond.initialized cls).before args s = true) (hat : ∀ w ∈ vx_at0 own ic cls names, w.before args s = true)
    (hgood : ∀ w ∈ Cond.classLink own ik cls :: Cond.initialized cls :: vx_at0 own ic cls names, vx_ot w = true) (hsize : ls.size = nL)
    (d0 : decode cc pc = .ok (.new ik, 3)) (d3 : decode cc (pc + 3) = .ok (.dup, 1)) (d4 : decode cc (pc + 4) = .ok (.invokespecial ic, 3)) (d7 : decode cc (pc + 7) = .ok (.athrow, 1))
    (hRframes : names.length + 3 < R.frames) (hRlocals : (rest.map fun v => v.category).sum + (13 * (names.length + 1) + 42) ≤ R.locals) (hRcells : cells + 1 ≤ R.cells) (hRslots : slots + 6 ≤ R.slots)
    (hK : ∀ q : Nat, KX cls q bs) (hc : cells + 1 ≤ mc) (hs : slots + 6 ≤ ms) :
    W p l e R s m args below meth c H locs cells slots (vx_MQ below ret' (xX Γ A KX) args s mc ms A) (F0 m pc ls rest) := by
  refine vx_throw0 (A := A) X.1 X.2.1 hl X.2.2.2.1 hcls hnames hk hini hat hgood (hZ.2.2.1 _ (List.mem_of_getElem? (i := 0) rfl)) (hZ.2.2.1 _ (List.mem_of_getElem? (i := 1) rfl)) Y.2.2 (hsize.trans X.2.2.1.symm) d0 d3 d4 d7 (by rw [ht]; exact (fun x hx => nomatch hx)) hRframes hRlocals hRcells hRslots hlk (fun q t _ hsz hq => ?_) (fun z hz => Y.2.2.2.2 z hz) hc hs
  refine ⟨(cls, q, bs), hK q, ⟨rfl, rfl, va_P_grow Y.1 hq, Y.2.1⟩, ?_⟩
  exact ⟨Nat.le_trans Y.2.2.1 hsz, fun q9 h9 h10 => (hq q9 (Nat.lt_of_lt_of_le h9 Y.2.2.1)).trans (Y.2.2.2.1 q9 h9 h10)⟩
/-- 'throw x' -/
theorem xo_athrow {q : Nat} (X : Fx Γ p c cc nL s m args own A) (hl : l.stackTraces = false) (d : decode cc pc = .ok (.athrow, 1)) (kk : vx_W p l e R s m args below meth c H locs cells slots Q (F0 m pc ls rest) q) : W p l e R s m args below meth c H locs cells slots Q (F0 m pc ls (.ref q :: rest)) := by
  exact vx_athrow X.1 X.2.1 d kk
/-- the cell of an object of the world -/
theorem ob_xcell {b ci a : Nat} {fs : List Value} {B : va_W} {C : String} {T : u_T} {ty : Nat → FieldType} {N : Nat} (X : Fx Γ p c cc nL s m args own A) (Y : Wo Γ A s H locs bs) (hb : bs[b]? = some B) (hm : (a, .inr (ci, fs)) ∈ B) (F : FC ci C T ty N) : xcell s H C a := by
  obtain ⟨q0, hq0⟩ := List.getElem?_of_mem (za_mem hb hm)
  obtain ⟨r, h1, cell, g1, g2, g3, g4⟩ := Y.1 q0 _ hq0
  have h1 : clA[ci]? = some r := h1
  have hr : r = (C, T, N) := Option.some.inj (h1.symm.trans F.1)
  subst hr
  exact ⟨cell, g1, g3, by rw [g2]; exact (X.2.2.2.2.2.1.1.1 ci _ F.1).2.1⟩
end XCON
