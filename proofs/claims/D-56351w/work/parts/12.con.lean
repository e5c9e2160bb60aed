set_option maxRecDepth 100000
/-! contracts over bundles; calls -/
def pk (bs : bW) (is : List Nat) : bW := is.filterMap (fun i => bs[i]?)
def pkOk (is : List Nat) (n : Nat) : Bool := is.isPerm (List.range n)
theorem pk_all : ∀ (bs : bW), pk bs (List.range bs.length) = bs := by
  intro bs
  induction bs with
  | nil => rfl
  | cons x bs ih =>
    rw [List.length_cons, List.range_succ_eq_map, pk, List.filterMap_cons, List.filterMap_map]
    simp only [List.getElem?_cons_zero]
    congr 1
theorem za_flatten {a b : bW} (h : a.Perm b) : a.flatten.Perm b.flatten := by
  induction h with
  | nil => exact List.Perm.refl _
  | cons x _ ih => rw [List.flatten_cons, List.flatten_cons]; exact List.Perm.append_left _ ih
  | swap x y l =>
    simp only [List.flatten_cons]
    rw [← List.append_assoc, ← List.append_assoc]
    exact List.Perm.append_right _ List.perm_append_comm
  | trans _ _ ih1 ih2 => exact ih1.trans ih2
theorem pk_perm {bs : bW} {is : List Nat} (h : pkOk is bs.length = true) : (pk bs is).Perm bs := by
  have h1 : is.Perm (List.range bs.length) := List.isPerm_iff.mp h
  have h2 := h1.filterMap (fun i => bs[i]?)
  have h3 := pk_all bs
  rw [pk] at h3
  rw [h3] at h2
  exact h2
theorem za_DP {A : Nat → Prop} {v w : va_W} (h : v.Perm w) (hD : va_D A w) : va_D A v := by
  rw [za_D] at hD ⊢
  exact ⟨((h.map Prod.fst).nodup_iff).mpr hD.1, fun q hq => hD.2 q (h.mem_iff.mp hq)⟩
theorem za_PP {D : va_G} {cl : List vw_C} {v w : va_W} {H : Heap} (h : v.Perm w) (hP : va_P D cl w H) : va_P D cl v H := by
  rw [za_P] at hP ⊢
  exact fun q hq => hP q (h.mem_iff.mp hq)
theorem Wo.perm {Γ : gT} {A : Nat → Prop} {s : State} {H : Heap} {locs : List Loc} {bs bs' : bW} (Y : Wo Γ A s H locs bs) (is : List Nat) (h1 : pk bs is = bs') (h2 : pkOk is bs.length = true) : Wo Γ A s H locs bs' := by
  subst h1
  exact ⟨za_PP (za_flatten (pk_perm h2)) Y.1, za_DP (za_flatten (pk_perm h2)) Y.2.1, Y.2.2⟩
theorem Wo.to {Γ : gT} {A : Nat → Prop} {s : State} {H : Heap} {locs : List Loc} {bs bs' : bW} (Y : Wo Γ A s H locs bs) (h : bs = bs') : Wo Γ A s H locs bs' := h ▸ Y
/-- fewer bundles -/
theorem Wo.drop {Γ : gT} {A : Nat → Prop} {s : State} {H : Heap} {locs : List Loc} {bs bs' wr : bW} (Y : Wo Γ A s H locs bs) (is rs : List Nat) (h1 : pk bs is = bs') (h2 : pk bs rs = wr) (h3 : pkOk (is ++ rs) bs.length = true) : Wo Γ A s H locs bs' := by
  have h := za_flatten (pk_perm h3)
  rw [pk, List.filterMap_append] at h
  change (pk bs is ++ pk bs rs).flatten.Perm bs.flatten at h
  rw [h1, h2, List.flatten_append] at h
  have hP := za_PP h Y.1
  have hD := za_DP h Y.2.1
  rw [za_P] at hP
  rw [za_D] at hD
  refine ⟨za_P.mpr fun q hq => hP q (List.mem_append_left _ hq), za_D.mpr ⟨?_, fun q hq => hD.2 q (List.mem_append_left _ hq)⟩, Y.2.2⟩
  have := hD.1
  rw [List.map_append, List.nodup_append] at this
  exact this.1
/-- what a method may ask of the heap beside its world -/
abbrev eT : Type := (Nat → Prop) → State → Prop
def E0 : eT := fun _ _ => True
def EBl (E : eT) : Prop := ∀ (A : Nat → Prop) (U V : State), U.heap = V.heap → U.vm = V.vm → E A U → E A V
theorem E0_bl : EBl E0 := fun _ _ _ _ _ _ => trivial
def cPc (Γ : gT) (E : eT) (av : List Value) (w0 : bW) (sz : Nat) : Array Value → State → Prop := va_Pc av (fun U => U.heap.size = sz ∧ va_P Γ.1 clA w0.flatten U.heap ∧ va_D (fun _ => True) w0.flatten ∧ Gk Γ U ∧ E (va_A w0.flatten sz) U)
def cB {S : Type} (Γ : gT) (A : Nat → Prop) (w1 : S → bW) : S → State → Prop := fun u t => va_P Γ.1 clA (w1 u).flatten t.heap ∧ va_D A (w1 u).flatten
def cI (Γ : gT) (l : Launch) (y : MethodName) (ws : List Cond) (rm : Room) (E : eT) (av : List Value) (w0 : bW) {S : Type} (w1 : S → bW) (K : Int32 → S → Prop) : Prop := ∀ sz : Nat, Met l y ws rm (cPc Γ E av w0 sz) (va_Qi K (cB Γ (va_A w0.flatten sz) w1) (va_A w0.flatten sz)) rm.cells rm.slots (va_A w0.flatten sz)
def cV (Γ : gT) (l : Launch) (y : MethodName) (ws : List Cond) (rm : Room) (E : eT) (av : List Value) (w0 : bW) {S : Type} (w1 : S → bW) (K : S → Prop) : Prop := ∀ sz : Nat, Met l y ws rm (cPc Γ E av w0 sz) (va_Qv K (cB Γ (va_A w0.flatten sz) w1) (va_A w0.flatten sz)) rm.cells rm.slots (va_A w0.flatten sz)
def cJ (Γ : gT) (l : Launch) (y : MethodName) (ws : List Cond) (rm : Room) (E : eT) (av : List Value) (w0 : bW) {S : Type} (w1 : S → bW) (K : Int64 → S → Prop) : Prop := ∀ sz : Nat, Met l y ws rm (cPc Γ E av w0 sz) (va_Ql K (cB Γ (va_A w0.flatten sz) w1) (va_A w0.flatten sz)) rm.cells rm.slots (va_A w0.flatten sz)
def cD (Γ : gT) (l : Launch) (y : MethodName) (ws : List Cond) (rm : Room) (E : eT) (av : List Value) (w0 : bW) {S : Type} (w1 : S → bW) (K : UInt64 → S → Prop) : Prop := ∀ sz : Nat, Met l y ws rm (cPc Γ E av w0 sz) (va_Qd K (cB Γ (va_A w0.flatten sz) w1) (va_A w0.flatten sz)) rm.cells rm.slots (va_A w0.flatten sz)
def cF (Γ : gT) (l : Launch) (y : MethodName) (ws : List Cond) (rm : Room) (E : eT) (av : List Value) (w0 : bW) {S : Type} (w1 : S → bW) (K : UInt32 → S → Prop) : Prop := ∀ sz : Nat, Met l y ws rm (cPc Γ E av w0 sz) (va_Qf K (cB Γ (va_A w0.flatten sz) w1) (va_A w0.flatten sz)) rm.cells rm.slots (va_A w0.flatten sz)
def cR (Γ : gT) (l : Launch) (y : MethodName) (ws : List Cond) (rm : Room) (E : eT) (av : List Value) (w0 : bW) {S : Type} (w1 : S → bW) (K : Option Nat → S → Prop) : Prop := ∀ sz : Nat, Met l y ws rm (cPc Γ E av w0 sz) (va_Qq K (cB Γ (va_A w0.flatten sz) w1) (va_A w0.flatten sz)) rm.cells rm.slots (va_A w0.flatten sz)
section CON
variable {Γ : gT} {p : Program} {l : Launch} {e : Env} {R : Room} {s : State} {m : MethodId} {args : Array Value} {below : List Frame} {meth : Method} {c : Code} {H : Heap} {locs : List Loc} {cells slots : Nat} {Q : State → Prop} {cc : ByteArray} {pc : Nat} {ls : Array Slot} {rest st0 : List Value} {A : Nat → Prop} {own : String} {nL : Nat} {bs w0 wr : bW} {E : eT} {S : Type} {w1 : S → bW} {y : MethodName} {ws : List Cond} {rm : Room} {av As : List Value} {ret : Option FieldType} {mc ms : Nat}
/-- a method's start -/
theorem za_start {sz : Nat} {Qc : Array Value → State → Outcome → State → Prop} (hy : plainName y.cls = true) (hav : (lg_sl av).length ≤ nL)
    (body : ∀ (p : Program) (e : Env) (s : State) (m : MethodId) (below : List Frame) (meth : Method) (c : Code) (ls : Array Slot), s.heap.size = sz → Fx Γ p c cc nL s m av.toArray y.cls (va_A w0.flatten sz) → meth.sig.returnType = ret → meth.locks = false → meth.name = y.name → E (va_A w0.flatten sz) s → Wo Γ (va_A w0.flatten sz) s s.heap [] w0 → lv_has ls nL (lv_args 0 av) →
      W p l e (headSpec (ws_ y cc nL ret) rm).room s m av.toArray below meth c s.heap [] 0 0 (MQ below Qc av.toArray s mc ms (va_A w0.flatten sz)) (F0 m 0 ls [])) : Met l y (ws_ y cc nL ret) rm (cPc Γ E av w0 sz) Qc mc ms (va_A w0.flatten sz) := by
  refine Met.ofW (cc := cc) (maxL := nL) (ret := ret) hy rfl ?_
  intro p e s m args below meth c s₁ B hml hv
  obtain ⟨rfl, hsz, hP, hD, hG, hE⟩ := hv
  have hts := atoms_spec (ws := ws_ y cc nL ret) B.pre
  have hts : ∀ w ∈ lw_all, w.before _ s = true := fun w h => hts w (List.mem_cons_of_mem _ h)
  rw [lg_entry_eq]
  exact body p e s m below meth c _ hsz ⟨B.exec, B.bytes, hml, findClass_of_methodNamed B.named, hts, hG, fun q h => Or.inr (by rw [← hsz]; exact h)⟩ B.returns B.notSynchronized (name_of_methodNamed B.named B.method).1 hE ⟨hP, hD.self, va_S.rf⟩ (lv_entry av hav)
/-- before a call: the callee's bundles -/
theorem za_pre (X : Fx Γ p c cc nL s m args own A) (Y : Wo Γ A s H locs bs) (is rs : List Nat) (h1 : pk bs is = w0) (h3 : pkOk (is ++ rs) bs.length = true) (hbl : EBl E) (hE : ∀ U : State, U.heap = H → s.WarmedH U.vm → E (va_A w0.flatten H.size) U) : PreS s H (cPc Γ E As w0 H.size) As := by
  refine ⟨fun a U g mk q => ?_, fun U hU hW => ?_⟩
  · obtain ⟨q0, q1, q2, q3, q4, q5⟩ := q
    exact ⟨q0, q1, q2, q3, Gk.same (s := U) rfl q4, hbl _ U _ rfl rfl q5⟩
  · have Y' := Y.drop is rs h1 rfl h3
    exact ⟨rfl, by rw [hU], by rw [hU]; exact Y'.1, Y'.2.1.weaken (fun _ _ _ _ => trivial), X.2.2.2.2.2.1.warm hW, hE U hU hW⟩
theorem za_preV (X : Fx Γ p c cc nL s m args own A) (Y : Wo Γ A s H locs bs) (is rs : List Nat) (h1 : pk bs is = w0) (h3 : pkOk (is ++ rs) bs.length = true) (hbl : EBl E) (hE : ∀ U : State, U.heap = H → s.WarmedH U.vm → E (va_A w0.flatten H.size) U) {C : String} {b : Addr} (hr : ∃ (ci : Nat) (fs : List Value) (q : vw_C), (b, .inr (ci, fs)) ∈ bs.flatten ∧ clA[ci]? = some q ∧ q.1 = C) : PreV s H C b (cPc Γ E (.ref b :: As) w0 H.size) As := by
  have h := za_pre (As := .ref b :: As) X Y is rs h1 h3 hbl hE
  obtain ⟨ci, fs, q, g1, g2, rfl⟩ := hr
  obtain ⟨q0, hq0⟩ := List.getElem?_of_mem g1
  exact ⟨h.1, va_recv X.2.2.2.2.2.1.1 Y.1 g2 hq0, h.2⟩
theorem fl_recv {b : Nat} {ci : Nat} {sh : shT} {o : Nat} {ad : Nat → Nat} {τ : flT} {C : String} {T : u_T} {ty : Nat → FieldType} {N : Nat} (hb : bs[b]? = some (flW Γ ci sh o ad τ)) (F : FC ci C T ty N) : ∃ (ci : Nat) (fs : List Value) (q : vw_C), (o, .inr (ci, fs)) ∈ bs.flatten ∧ clA[ci]? = some q ∧ q.1 = C :=
  ⟨ci, _, _, za_mem hb List.mem_cons_self, F.1, rfl⟩
/-- the frame: what isn't the callee's stays -/
theorem za_back (X : Fx Γ p c cc nL s m args own A) (Y : Wo Γ A s H locs bs) (is rs : List Nat) (h1 : pk bs is = w0) (h2 : pk bs rs = wr) (h3 : pkOk (is ++ rs) bs.length = true) {w2 : bW} {t : State} {H1 : Heap} {locs1 : List Loc} (ht : t.heap = H1) (hk : ∀ q : Nat, q < H.size → ¬ va_A w0.flatten H.size q → H1[q]? = H[q]?) (hB : va_P Γ.1 clA w2.flatten t.heap ∧ va_D (va_A w0.flatten H.size) w2.flatten) (hS : va_S A s.heap H1 locs1) : Wo Γ A s H1 locs1 (w2 ++ wr) := by
  have h := za_flatten (pk_perm h3)
  rw [pk, List.filterMap_append] at h
  change (pk bs is ++ pk bs rs).flatten.Perm bs.flatten at h
  rw [h1, h2, List.flatten_append] at h
  have hP := za_P.mp (za_PP h Y.1)
  have hD := za_D.mp (za_DP h Y.2.1)
  obtain ⟨hP1, hD1⟩ := hB
  subst ht
  have hP1' := za_P.mp hP1
  have hD1' := za_D.mp hD1
  have hnd := hD.1
  rw [List.map_append, List.nodup_append] at hnd
  have hout : ∀ q ∈ wr.flatten, q.1 < H.size ∧ ¬ va_A w0.flatten H.size q.1 := by
    intro q hq
    have hl := (hP q (List.mem_append_right _ hq)).lt
    refine ⟨hl, fun hA => ?_⟩
    rcases hA with ⟨k, e, hk⟩ | hA
    · exact hnd.2.2 _ (List.mem_map_of_mem (List.mem_of_getElem? hk)) _ (List.mem_map_of_mem hq) rfl
    · omega
  have hin : ∀ q, va_A w0.flatten H.size q → A q := by
    intro q hq
    rcases hq with ⟨k, e, hk⟩ | hq
    · exact hD.2 (q, e) (List.mem_append_left _ (List.mem_of_getElem? hk))
    · exact X.2.2.2.2.2.2 q (Nat.le_trans Y.2.2.1 hq)
  refine ⟨za_P.mpr fun q hq => ?_, za_D.mpr ⟨?_, fun q hq => ?_⟩, hS⟩
  · rw [List.flatten_append] at hq
    rcases List.mem_append.mp hq with g | g
    · exact hP1' q g
    · exact (hP q (List.mem_append_right _ g)).kept (hk q.1 (hout q g).1 (hout q g).2)
  · rw [List.flatten_append, List.map_append, List.nodup_append]
    refine ⟨hD1'.1, hnd.2.1, fun a ha b hb hab => ?_⟩
    obtain ⟨q, hq, rfl⟩ := List.mem_map.mp ha
    obtain ⟨r, hr, rfl⟩ := List.mem_map.mp hb
    exact (hout r hr).2 (by rw [← hab]; exact hD1'.2 q hq)
  · rw [List.flatten_append] at hq
    rcases List.mem_append.mp hq with g | g
    · exact hin _ (hD1'.2 q g)
    · exact hD.2 q (List.mem_append_right _ g)
theorem za_in (X : Fx Γ p c cc nL s m args own A) (Y : Wo Γ A s H locs bs) (is rs : List Nat) (h1 : pk bs is = w0) (h3 : pkOk (is ++ rs) bs.length = true) : ∀ q, va_A w0.flatten H.size q → A q := by
  have h := za_flatten (pk_perm h3)
  rw [pk, List.filterMap_append] at h
  change (pk bs is ++ pk bs rs).flatten.Perm bs.flatten at h
  rw [h1, List.flatten_append] at h
  have hD := za_D.mp (za_DP h Y.2.1)
  intro q hq
  rcases hq with ⟨k, e, hk⟩ | hq
  · exact hD.2 (q, e) (List.mem_append_left _ (List.mem_of_getElem? hk))
  · exact X.2.2.2.2.2.2 q (Nat.le_trans Y.2.2.1 hq)
section AFT
variable {a : Array Value}
theorem af_i {K : Int32 → S → Prop} (X : Fx Γ p c cc nL s m args own A) (Y : Wo Γ A s H locs bs) (is rs : List Nat) (h1 : pk bs is = w0) (h2 : pk bs rs = wr) (h3 : pkOk (is ++ rs) bs.length = true) (hr : va_Run p l e R s m args below meth c H locs cells slots mc ms (F0 m pc ls st0) rest (va_Qi K (cB Γ (va_A w0.flatten H.size) w1) (va_A w0.flatten H.size) a) (va_A w0.flatten H.size))
    (kk : ∀ (r : Int32) (u : S) (H : Heap) (locs : List Loc), K r u → Wo Γ A s H locs (w1 u ++ wr) → W p l e R s m args below meth c H locs (cells + mc) (slots + ms) Q (F0 m (pc + 3) ls (.int r :: rest))) : W p l e R s m args below meth c H locs cells slots Q (F0 m pc ls st0) :=
  va_calli hr Y.2.2 (fun q _ h => za_in X Y is rs h1 h3 q h) (za_in X Y is rs h1 h3) (fun r u t H1 locs1 ht _ hp hB _ hk hS => kk r u H1 locs1 hp (za_back X Y is rs h1 h2 h3 ht hk hB hS))
theorem af_v {K : S → Prop} (X : Fx Γ p c cc nL s m args own A) (Y : Wo Γ A s H locs bs) (is rs : List Nat) (h1 : pk bs is = w0) (h2 : pk bs rs = wr) (h3 : pkOk (is ++ rs) bs.length = true) (hr : va_Run p l e R s m args below meth c H locs cells slots mc ms (F0 m pc ls st0) rest (va_Qv K (cB Γ (va_A w0.flatten H.size) w1) (va_A w0.flatten H.size) a) (va_A w0.flatten H.size))
    (kk : ∀ (u : S) (H : Heap) (locs : List Loc), K u → Wo Γ A s H locs (w1 u ++ wr) → W p l e R s m args below meth c H locs (cells + mc) (slots + ms) Q (F0 m (pc + 3) ls rest)) : W p l e R s m args below meth c H locs cells slots Q (F0 m pc ls st0) :=
  va_callv hr Y.2.2 (fun q _ h => za_in X Y is rs h1 h3 q h) (za_in X Y is rs h1 h3) (fun u t H1 locs1 ht _ hp hB _ hk hS => kk u H1 locs1 hp (za_back X Y is rs h1 h2 h3 ht hk hB hS))
theorem af_l {K : Int64 → S → Prop} (X : Fx Γ p c cc nL s m args own A) (Y : Wo Γ A s H locs bs) (is rs : List Nat) (h1 : pk bs is = w0) (h2 : pk bs rs = wr) (h3 : pkOk (is ++ rs) bs.length = true) (hr : va_Run p l e R s m args below meth c H locs cells slots mc ms (F0 m pc ls st0) rest (va_Ql K (cB Γ (va_A w0.flatten H.size) w1) (va_A w0.flatten H.size) a) (va_A w0.flatten H.size))
    (kk : ∀ (r : Int64) (u : S) (H : Heap) (locs : List Loc), K r u → Wo Γ A s H locs (w1 u ++ wr) → W p l e R s m args below meth c H locs (cells + mc) (slots + ms) Q (F0 m (pc + 3) ls (.long r :: rest))) : W p l e R s m args below meth c H locs cells slots Q (F0 m pc ls st0) :=
  va_calll hr Y.2.2 (fun q _ h => za_in X Y is rs h1 h3 q h) (za_in X Y is rs h1 h3) (fun r u t H1 locs1 ht _ hp hB _ hk hS => kk r u H1 locs1 hp (za_back X Y is rs h1 h2 h3 ht hk hB hS))
theorem af_d {K : UInt64 → S → Prop} (X : Fx Γ p c cc nL s m args own A) (Y : Wo Γ A s H locs bs) (is rs : List Nat) (h1 : pk bs is = w0) (h2 : pk bs rs = wr) (h3 : pkOk (is ++ rs) bs.length = true) (hr : va_Run p l e R s m args below meth c H locs cells slots mc ms (F0 m pc ls st0) rest (va_Qd K (cB Γ (va_A w0.flatten H.size) w1) (va_A w0.flatten H.size) a) (va_A w0.flatten H.size))
    (kk : ∀ (r : UInt64) (u : S) (H : Heap) (locs : List Loc), K r u → Wo Γ A s H locs (w1 u ++ wr) → W p l e R s m args below meth c H locs (cells + mc) (slots + ms) Q (F0 m (pc + 3) ls (.double r :: rest))) : W p l e R s m args below meth c H locs cells slots Q (F0 m pc ls st0) :=
  va_calld hr Y.2.2 (fun q _ h => za_in X Y is rs h1 h3 q h) (za_in X Y is rs h1 h3) (fun r u t H1 locs1 ht _ hp hB _ hk hS => kk r u H1 locs1 hp (za_back X Y is rs h1 h2 h3 ht hk hB hS))
theorem af_f {K : UInt32 → S → Prop} (X : Fx Γ p c cc nL s m args own A) (Y : Wo Γ A s H locs bs) (is rs : List Nat) (h1 : pk bs is = w0) (h2 : pk bs rs = wr) (h3 : pkOk (is ++ rs) bs.length = true) (hr : va_Run p l e R s m args below meth c H locs cells slots mc ms (F0 m pc ls st0) rest (va_Qf K (cB Γ (va_A w0.flatten H.size) w1) (va_A w0.flatten H.size) a) (va_A w0.flatten H.size))
    (kk : ∀ (r : UInt32) (u : S) (H : Heap) (locs : List Loc), K r u → Wo Γ A s H locs (w1 u ++ wr) → W p l e R s m args below meth c H locs (cells + mc) (slots + ms) Q (F0 m (pc + 3) ls (.float r :: rest))) : W p l e R s m args below meth c H locs cells slots Q (F0 m pc ls st0) :=
  va_callf hr Y.2.2 (fun q _ h => za_in X Y is rs h1 h3 q h) (za_in X Y is rs h1 h3) (fun r u t H1 locs1 ht _ hp hB _ hk hS => kk r u H1 locs1 hp (za_back X Y is rs h1 h2 h3 ht hk hB hS))
end AFT
/-- ends -/
theorem re_i {K : Int32 → S → Prop} (X : Fx Γ p c cc nL s m args own A) (Y : Wo Γ A s H locs bs) {ty : FieldType} (hr : meth.sig.returnType = some ty) (hlk : meth.locks = false) (u : S) (hu : w1 u = bs) {v : Int32} (hn : narrow ty (.int v) = .int v) (hK : K v u) (hc : cells ≤ mc) (hs : slots ≤ ms) (d : decode cc pc = .ok (.ireturn, 1)) : W p l e R s m args below meth c H locs cells slots (MQ below (va_Qi K (cB Γ A w1) A) args s mc ms A) (F0 m pc ls [.int v]) := by
  subst hu
  refine W.widen hc hs ?_
  exact W.zret X.1 X.2.1 hr hn (fun t ht hW => ⟨⟨v, u, rfl, hK, by rw [cB, ht]; exact ⟨Y.1, Y.2.1⟩⟩, Y.2.2.F ht⟩) Y.2.2.2.2 d hlk
theorem re_v {K : S → Prop} (X : Fx Γ p c cc nL s m args own A) (Y : Wo Γ A s H locs bs) (hr : meth.sig.returnType = none) (hlk : meth.locks = false) (u : S) (hu : w1 u = bs) (hK : K u) (hc : cells ≤ mc) (hs : slots ≤ ms) (d : decode cc pc = .ok (.return_, 1)) : W p l e R s m args below meth c H locs cells slots (MQ below (va_Qv K (cB Γ A w1) A) args s mc ms A) (F0 m pc ls []) := by
  subst hu
  refine W.widen hc hs ?_
  exact W.vret X.1 X.2.1 hr (fun t ht hW => ⟨⟨u, rfl, hK, by rw [cB, ht]; exact ⟨Y.1, Y.2.1⟩⟩, Y.2.2.F ht⟩) Y.2.2.2.2 d hlk
end CON
