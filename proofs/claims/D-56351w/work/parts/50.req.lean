set_option maxRecDepth 100000
/-! the class: walks of what throws -/
def wpX1_inRange (K : (Int32) → Prop)  (a1 : Int32) (a2 : Int32) (a3 : Int32) : Prop := (a1 < a2 → (K 0)) ∧ (¬ a1 < a2 → ((a3 < a1 → (K 0)) ∧ (¬ a3 < a1 → (K 1))))
abbrev rmX1_inRange : Room := { frames := 0, cells := 0, slots := 0, locals := 0 }
theorem hdX1_inRange : yX1_inRange.cls ≠ "java/lang/invoke/MethodHandle" ∧ yX1_inRange.cls ≠ "java/lang/invoke/VarHandle" ∧ (parseMethodDescriptor yX1_inRange.desc).map (fun d => d.parameters.length) = some 3 := by decide +kernel
set_option maxHeartbeats 4000000 in
theorem mtX1_inRange {Γ : gT} {l : Launch} {a1 : Int32} {a2 : Int32} {a3 : Int32} {K : (Int32) → Prop}  (hw : wpX1_inRange K  a1 a2 a3) : cI Γ l yX1_inRange (ws_ yX1_inRange cX1_inRange 3 (some .boolean)) rmX1_inRange E0 [.int a1, .int a2, .int a3] [] (fun u : Unit => []) (fun r u => K r ) := by
  refine cI_of (by decide +kernel) (Nat.le_of_ble_eq_true rfl) ?_
  intro p e s m args below meth c ls A Q hQ X hr hlk hnm hE Y hl
  have hx := X.1
  have hb := X.2.1
  have hl : lv_has ls 3 [(0, .int a1), (1, .int a2), (2, .int a3)] := hl
  unfold wpX1_inRange at hw
  obtain ⟨H, hH⟩ : ∃ H : Heap, H = s.heap := ⟨_, rfl⟩
  obtain ⟨locs, hlo⟩ : ∃ locs : List Loc, locs = [] := ⟨_, rfl⟩
  rw [← hH, ← hlo] at Y
  rw [← hH, ← hlo]
  refine lv_iload_n hx hb dX1_inRange_0 rfl (lv_at hl 0 rfl) ?_
  refine lv_iload_n hx hb dX1_inRange_1 rfl (lv_at hl 1 rfl) ?_
  refine lv_icmp_lt (tgt := 14) hx hb dX1_inRange_2 (by decide) (fun hc => ?_) (fun hc => ?_)
  · have hw := hw.1 hc
    refine lv_iconst (v := 0) hx hb dX1_inRange_14 rfl ?_
    subst hQ
    exact re_i X Y hr hlk () rfl rfl hw (Nat.le_of_ble_eq_true rfl) (Nat.le_of_ble_eq_true rfl) dX1_inRange_15
  · have hw := hw.2 hc
    refine lv_iload_n hx hb dX1_inRange_5 rfl (lv_at hl 0 rfl) ?_
    refine lv_iload_n hx hb dX1_inRange_6 rfl (lv_at hl 2 rfl) ?_
    refine lv_icmp_gt (tgt := 14) hx hb dX1_inRange_7 (by decide) (fun hc => ?_) (fun hc => ?_)
    · have hw := hw.1 hc
      refine lv_iconst (v := 0) hx hb dX1_inRange_14 rfl ?_
      subst hQ
      exact re_i X Y hr hlk () rfl rfl hw (Nat.le_of_ble_eq_true rfl) (Nat.le_of_ble_eq_true rfl) dX1_inRange_15
    · have hw := hw.2 hc
      refine lv_iconst (v := 1) hx hb dX1_inRange_10 rfl ?_
      refine lv_goto (tgt := 15) hx hb dX1_inRange_11 (by decide) ?_
      subst hQ
      exact re_i X Y hr hlk () rfl rfl hw (Nat.le_of_ble_eq_true rfl) (Nat.le_of_ble_eq_true rfl) dX1_inRange_15
def wpX1_requireArgument (mc ms : Nat) (K : Prop) (X1 : Prop) (a1 : Int32) : Prop := (a1 = 0 → ((0 + 1 ≤ mc ∧ 0 + 6 ≤ ms) ∧ (X1))) ∧ (¬ a1 = 0 → (K))
abbrev rmX1_requireArgument (mc ms : Nat) : Room := { frames := 7, cells := mc, slots := ms, locals := 93 }
theorem hdX1_requireArgument : yX1_requireArgument.cls ≠ "java/lang/invoke/MethodHandle" ∧ yX1_requireArgument.cls ≠ "java/lang/invoke/VarHandle" ∧ (parseMethodDescriptor yX1_requireArgument.desc).map (fun d => d.parameters.length) = some 1 := by decide +kernel
theorem atX1_requireArgument5_in : ∀ w ∈ vx_at0 "SpindleActors" 5 "java/lang/IllegalArgumentException" ["java/lang/RuntimeException", "java/lang/Exception"], w ∈ lw_all ∨ (w ∈ lw_tbl ∧ gkW w = true) := by decide +kernel
theorem atX1_requireArgument5_ok {args : Array Value} {s : State} (h1 : ∀ w ∈ lw_all, w.before args s = true) (h2 : ∀ w, w ∈ lw_tbl ∧ gkW w = true → w.before args s = true) : ∀ w ∈ vx_at0 "SpindleActors" 5 "java/lang/IllegalArgumentException" ["java/lang/RuntimeException", "java/lang/Exception"], w.before args s = true := fun w hw => (atX1_requireArgument5_in w hw).elim (h1 w) (h2 w)
set_option maxHeartbeats 4000000 in
theorem mtX1_requireArgument {Γ : gT} {l : Launch} {mc ms : Nat} {a1 : Int32} {K : Prop} {X1 : Prop} (hlT : l.stackTraces = false) (hw : wpX1_requireArgument mc ms K X1 a1) : xV Γ l yX1_requireArgument (ws_ yX1_requireArgument cX1_requireArgument 1 none) (rmX1_requireArgument mc ms) (eN Γ) [.int a1] [] (fun u : Unit => []) (fun _ => K) (fun (E : String) (q : Nat) (bs : bW) => (E = "java/lang/IllegalArgumentException" ∧ bs = [] ∧ X1)) := by
  refine xV_of (by decide +kernel) (Nat.le_of_ble_eq_true rfl) ?_
  intro p e s m args below meth c ls A Q hQ X hr hlk hnm htb hE Y hl
  have hx := X.1
  have hb := X.2.1
  have hl : lv_has ls 1 [(0, .int a1)] := hl
  unfold wpX1_requireArgument at hw
  obtain ⟨H, hH⟩ : ∃ H : Heap, H = s.heap := ⟨_, rfl⟩
  obtain ⟨locs, hlo⟩ : ∃ locs : List Loc, locs = [] := ⟨_, rfl⟩
  rw [← hH, ← hlo] at Y
  rw [← hH, ← hlo]
  have hk : 0 ≤ mc ∧ 0 ≤ ms := ⟨Nat.zero_le _, Nat.zero_le _⟩
  refine lv_iload_n hx hb dX1_requireArgument_0 rfl (lv_at hl 0 rfl) ?_
  refine lv_if_ne (tgt := 12) hx hb dX1_requireArgument_1 (by decide) (fun hc => ?_) (fun hc => ?_)
  · have hw := hw.2 hc
    subst hQ
    exact vx_ret (re_v X Y hr hlk () rfl hw (hk.1) (hk.2) dX1_requireArgument_12)
  · have hw := hw.1 hc
    obtain ⟨hk, hw⟩ := hw
    subst hQ
    exact xo_throw0 (names := ["java/lang/RuntimeException", "java/lang/Exception"]) hlT X Y hE htb hlk (by decide +kernel) (by decide +kernel) (X.2.2.2.2.1 _ q1627) (X.2.2.2.2.1 _ q168) (atX1_requireArgument5_ok X.2.2.2.2.1 (fun w h => X.2.2.2.2.2.1.use h.1 h.2)) (by decide +kernel) hl.1 dX1_requireArgument_4 dX1_requireArgument_7 dX1_requireArgument_8 dX1_requireArgument_11 (Nat.le_of_ble_eq_true rfl) (Nat.le_of_ble_eq_true rfl) hk.1 hk.2 (fun q => ⟨rfl, rfl, hw⟩) hk.1 hk.2
def wpX1_requireRange (mc ms : Nat) (K : Prop) (X1 : Prop) (a1 : Int32) (a2 : Int32) (a3 : Int32) : Prop := wpX1_inRange (fun r1 => (∃ mc2 ms3 : Nat, (0 + mc2 ≤ mc ∧ 0 + ms3 ≤ ms) ∧ wpX1_requireArgument mc2 ms3 (K) (X1) r1))  a1 a2 a3
abbrev rmX1_requireRange (mc ms : Nat) : Room := { frames := 8, cells := mc, slots := ms, locals := 113 }
theorem hdX1_requireRange : yX1_requireRange.cls ≠ "java/lang/invoke/MethodHandle" ∧ yX1_requireRange.cls ≠ "java/lang/invoke/VarHandle" ∧ (parseMethodDescriptor yX1_requireRange.desc).map (fun d => d.parameters.length) = some 3 := by decide +kernel
set_option maxHeartbeats 4000000 in
theorem mtX1_requireRange {Γ : gT} {l : Launch} {mc ms : Nat} {a1 : Int32} {a2 : Int32} {a3 : Int32} {K : Prop} {X1 : Prop} (hlT : l.stackTraces = false) (hw : wpX1_requireRange mc ms K X1 a1 a2 a3) : xV Γ l yX1_requireRange (ws_ yX1_requireRange cX1_requireRange 3 none) (rmX1_requireRange mc ms) (eN Γ) [.int a1, .int a2, .int a3] [] (fun u : Unit => []) (fun _ => K) (fun (E : String) (q : Nat) (bs : bW) => (E = "java/lang/IllegalArgumentException" ∧ bs = [] ∧ X1)) := by
  refine xV_of (by decide +kernel) (Nat.le_of_ble_eq_true rfl) ?_
  intro p e s m args below meth c ls A Q hQ X hr hlk hnm htb hE Y hl
  have hx := X.1
  have hb := X.2.1
  have hl : lv_has ls 3 [(0, .int a1), (1, .int a2), (2, .int a3)] := hl
  unfold wpX1_requireRange at hw
  obtain ⟨H, hH⟩ : ∃ H : Heap, H = s.heap := ⟨_, rfl⟩
  obtain ⟨locs, hlo⟩ : ∃ locs : List Loc, locs = [] := ⟨_, rfl⟩
  rw [← hH, ← hlo] at Y
  rw [← hH, ← hlo]
  have hk : 0 ≤ mc ∧ 0 ≤ ms := ⟨Nat.zero_le _, Nat.zero_le _⟩
  refine lv_iload_n hx hb dX1_requireRange_0 rfl (lv_at hl 0 rfl) ?_
  refine lv_iload_n hx hb dX1_requireRange_1 rfl (lv_at hl 1 rfl) ?_
  refine lv_iload_n hx hb dX1_requireRange_2 rfl (lv_at hl 2 rfl) ?_
  refine cl_SI X Y [] [] rfl rfl rfl E0_bl (fun _ _ _ => trivial) (mtX1_inRange (Γ := Γ) (l := l) hw) (lw_S q1635 q1636 q131 q1637) hdX1_inRange ⟨Nat.le_of_ble_eq_true rfl, Nat.le_of_ble_eq_true rfl⟩ rfl hl.1 rfl (Nat.le_of_ble_eq_true rfl) dX1_requireRange_3 hk (fun r1 u H locs hw Y => ?_)
  have Y : Wo Γ A s H locs [] := Y
  obtain ⟨mc2, ms3, hk2, hw⟩ := hw
  refine xv_SV X Y [] [] rfl rfl rfl eN_bl (fun U hU hW => ((eN_tr.at X hE Y [] [] rfl rfl) U hU hW)) (mtX1_requireArgument (Γ := Γ) (l := l) (mc := mc2) (ms := ms3) hlT hw) (lw_S q1624 q1625 q131 q1626) hdX1_requireArgument ⟨Nat.le_of_ble_eq_true rfl, Nat.le_of_ble_eq_true rfl⟩ rfl hl.1 rfl (Nat.le_of_ble_eq_true rfl) dX1_requireRange_6 hk2 (fun  u H locs hw Y => ?_) (fun E q b1 H locs hX hce Y => ?_)
  · have hk : 0 + mc2 ≤ mc ∧ 0 + ms3 ≤ ms := hk2
    have Y : Wo Γ A s H locs [] := Y
    subst hQ
    exact vx_ret (re_v X Y hr hlk () rfl hw (hk.1) (hk.2) dX1_requireRange_9)
  · have hk : 0 + mc2 ≤ mc ∧ 0 + ms3 ≤ ms := hk2
    obtain ⟨q4, rfl⟩ : ∃ z, z = q := ⟨_, rfl⟩
    obtain ⟨rfl, rfl, hw⟩ := hX
    have Y : Wo Γ A s H locs [] := Y
    subst hQ
    exact xo_out (E := "java/lang/IllegalArgumentException") X Y htb hlk hce (fun z hz => nomatch hz) ⟨rfl, rfl, hw⟩ (hk.1) (hk.2)
def wpX1_requireIndex (mc ms : Nat) (K : Prop) (X1 : Prop) (a1 : Int32) (a2 : Int32) : Prop := wpX1_inRange (fun r1 => ((r1 = 0 → ((0 + 1 ≤ mc ∧ 0 + 6 ≤ ms) ∧ (X1))) ∧ (¬ r1 = 0 → (K))))  a1 0 (a2 - 1)
abbrev rmX1_requireIndex (mc ms : Nat) : Room := { frames := 7, cells := mc, slots := ms, locals := 93 }
theorem hdX1_requireIndex : yX1_requireIndex.cls ≠ "java/lang/invoke/MethodHandle" ∧ yX1_requireIndex.cls ≠ "java/lang/invoke/VarHandle" ∧ (parseMethodDescriptor yX1_requireIndex.desc).map (fun d => d.parameters.length) = some 2 := by decide +kernel
theorem atX1_requireIndex25_in : ∀ w ∈ vx_at0 "SpindleActors" 25 "java/lang/IndexOutOfBoundsException" ["java/lang/RuntimeException", "java/lang/Exception"], w ∈ lw_all ∨ (w ∈ lw_tbl ∧ gkW w = true) := by decide +kernel
theorem atX1_requireIndex25_ok {args : Array Value} {s : State} (h1 : ∀ w ∈ lw_all, w.before args s = true) (h2 : ∀ w, w ∈ lw_tbl ∧ gkW w = true → w.before args s = true) : ∀ w ∈ vx_at0 "SpindleActors" 25 "java/lang/IndexOutOfBoundsException" ["java/lang/RuntimeException", "java/lang/Exception"], w.before args s = true := fun w hw => (atX1_requireIndex25_in w hw).elim (h1 w) (h2 w)
set_option maxHeartbeats 4000000 in
theorem mtX1_requireIndex {Γ : gT} {l : Launch} {mc ms : Nat} {a1 : Int32} {a2 : Int32} {K : Prop} {X1 : Prop} (hlT : l.stackTraces = false) (hw : wpX1_requireIndex mc ms K X1 a1 a2) : xV Γ l yX1_requireIndex (ws_ yX1_requireIndex cX1_requireIndex 2 none) (rmX1_requireIndex mc ms) (eN Γ) [.int a1, .int a2] [] (fun u : Unit => []) (fun _ => K) (fun (E : String) (q : Nat) (bs : bW) => (E = "java/lang/IndexOutOfBoundsException" ∧ bs = [] ∧ X1)) := by
  refine xV_of (by decide +kernel) (Nat.le_of_ble_eq_true rfl) ?_
  intro p e s m args below meth c ls A Q hQ X hr hlk hnm htb hE Y hl
  have hx := X.1
  have hb := X.2.1
  have hl : lv_has ls 2 [(0, .int a1), (1, .int a2)] := hl
  unfold wpX1_requireIndex at hw
  obtain ⟨H, hH⟩ : ∃ H : Heap, H = s.heap := ⟨_, rfl⟩
  obtain ⟨locs, hlo⟩ : ∃ locs : List Loc, locs = [] := ⟨_, rfl⟩
  rw [← hH, ← hlo] at Y
  rw [← hH, ← hlo]
  have hk : 0 ≤ mc ∧ 0 ≤ ms := ⟨Nat.zero_le _, Nat.zero_le _⟩
  refine lv_iload_n hx hb dX1_requireIndex_0 rfl (lv_at hl 0 rfl) ?_
  refine lv_iconst (v := 0) hx hb dX1_requireIndex_1 rfl ?_
  refine lv_iload_n hx hb dX1_requireIndex_2 rfl (lv_at hl 1 rfl) ?_
  refine lv_iconst (v := 1) hx hb dX1_requireIndex_3 rfl ?_
  refine lv_isub hx hb dX1_requireIndex_4 ?_
  refine cl_SI X Y [] [] rfl rfl rfl E0_bl (fun _ _ _ => trivial) (mtX1_inRange (Γ := Γ) (l := l) hw) (lw_S q1635 q1636 q131 q1637) hdX1_inRange ⟨Nat.le_of_ble_eq_true rfl, Nat.le_of_ble_eq_true rfl⟩ rfl hl.1 rfl (Nat.le_of_ble_eq_true rfl) dX1_requireIndex_5 hk (fun r1 u H locs hw Y => ?_)
  have Y : Wo Γ A s H locs [] := Y
  refine lv_if_ne (tgt := 19) hx hb dX1_requireIndex_8 (by decide) (fun hc => ?_) (fun hc => ?_)
  · have hw := hw.2 hc
    subst hQ
    exact vx_ret (re_v X Y hr hlk () rfl hw (hk.1) (hk.2) dX1_requireIndex_19)
  · have hw := hw.1 hc
    obtain ⟨hk, hw⟩ := hw
    subst hQ
    exact xo_throw0 (names := ["java/lang/RuntimeException", "java/lang/Exception"]) hlT X Y hE htb hlk (by decide +kernel) (by decide +kernel) (X.2.2.2.2.1 _ q1682) (X.2.2.2.2.1 _ q171) (atX1_requireIndex25_ok X.2.2.2.2.1 (fun w h => X.2.2.2.2.2.1.use h.1 h.2)) (by decide +kernel) hl.1 dX1_requireIndex_11 dX1_requireIndex_14 dX1_requireIndex_15 dX1_requireIndex_18 (Nat.le_of_ble_eq_true rfl) (Nat.le_of_ble_eq_true rfl) hk.1 hk.2 (fun q => ⟨rfl, rfl, hw⟩) hk.1 hk.2
def wpX1_requireElement (mc ms : Nat) (K : Prop) (X1 : Prop) (a1 : Int32) : Prop := (a1 = 0 → ((0 + 1 ≤ mc ∧ 0 + 6 ≤ ms) ∧ (X1))) ∧ (¬ a1 = 0 → (K))
abbrev rmX1_requireElement (mc ms : Nat) : Room := { frames := 7, cells := mc, slots := ms, locals := 93 }
theorem hdX1_requireElement : yX1_requireElement.cls ≠ "java/lang/invoke/MethodHandle" ∧ yX1_requireElement.cls ≠ "java/lang/invoke/VarHandle" ∧ (parseMethodDescriptor yX1_requireElement.desc).map (fun d => d.parameters.length) = some 1 := by decide +kernel
theorem atX1_requireElement28_in : ∀ w ∈ vx_at0 "SpindleActors" 28 "java/util/NoSuchElementException" ["java/lang/RuntimeException", "java/lang/Exception"], w ∈ lw_all ∨ (w ∈ lw_tbl ∧ gkW w = true) := by decide +kernel
theorem atX1_requireElement28_ok {args : Array Value} {s : State} (h1 : ∀ w ∈ lw_all, w.before args s = true) (h2 : ∀ w, w ∈ lw_tbl ∧ gkW w = true → w.before args s = true) : ∀ w ∈ vx_at0 "SpindleActors" 28 "java/util/NoSuchElementException" ["java/lang/RuntimeException", "java/lang/Exception"], w.before args s = true := fun w hw => (atX1_requireElement28_in w hw).elim (h1 w) (h2 w)
set_option maxHeartbeats 4000000 in
theorem mtX1_requireElement {Γ : gT} {l : Launch} {mc ms : Nat} {a1 : Int32} {K : Prop} {X1 : Prop} (hlT : l.stackTraces = false) (hw : wpX1_requireElement mc ms K X1 a1) : xV Γ l yX1_requireElement (ws_ yX1_requireElement cX1_requireElement 1 none) (rmX1_requireElement mc ms) (eN Γ) [.int a1] [] (fun u : Unit => []) (fun _ => K) (fun (E : String) (q : Nat) (bs : bW) => (E = "java/util/NoSuchElementException" ∧ bs = [] ∧ X1)) := by
  refine xV_of (by decide +kernel) (Nat.le_of_ble_eq_true rfl) ?_
  intro p e s m args below meth c ls A Q hQ X hr hlk hnm htb hE Y hl
  have hx := X.1
  have hb := X.2.1
  have hl : lv_has ls 1 [(0, .int a1)] := hl
  unfold wpX1_requireElement at hw
  obtain ⟨H, hH⟩ : ∃ H : Heap, H = s.heap := ⟨_, rfl⟩
  obtain ⟨locs, hlo⟩ : ∃ locs : List Loc, locs = [] := ⟨_, rfl⟩
  rw [← hH, ← hlo] at Y
  rw [← hH, ← hlo]
  have hk : 0 ≤ mc ∧ 0 ≤ ms := ⟨Nat.zero_le _, Nat.zero_le _⟩
  refine lv_iload_n hx hb dX1_requireElement_0 rfl (lv_at hl 0 rfl) ?_
  refine lv_if_ne (tgt := 12) hx hb dX1_requireElement_1 (by decide) (fun hc => ?_) (fun hc => ?_)
  · have hw := hw.2 hc
    subst hQ
    exact vx_ret (re_v X Y hr hlk () rfl hw (hk.1) (hk.2) dX1_requireElement_12)
  · have hw := hw.1 hc
    obtain ⟨hk, hw⟩ := hw
    subst hQ
    exact xo_throw0 (names := ["java/lang/RuntimeException", "java/lang/Exception"]) hlT X Y hE htb hlk (by decide +kernel) (by decide +kernel) (X.2.2.2.2.1 _ q2294) (X.2.2.2.2.1 _ q155) (atX1_requireElement28_ok X.2.2.2.2.1 (fun w h => X.2.2.2.2.2.1.use h.1 h.2)) (by decide +kernel) hl.1 dX1_requireElement_4 dX1_requireElement_7 dX1_requireElement_8 dX1_requireElement_11 (Nat.le_of_ble_eq_true rfl) (Nat.le_of_ble_eq_true rfl) hk.1 hk.2 (fun q => ⟨rfl, rfl, hw⟩) hk.1 hk.2
def wpX1_requireState (mc ms : Nat) (K : Prop) (X1 : Prop) (a1 : Int32) : Prop := (a1 = 0 → ((0 + 1 ≤ mc ∧ 0 + 6 ≤ ms) ∧ (X1))) ∧ (¬ a1 = 0 → (K))
abbrev rmX1_requireState (mc ms : Nat) : Room := { frames := 7, cells := mc, slots := ms, locals := 93 }
theorem hdX1_requireState : yX1_requireState.cls ≠ "java/lang/invoke/MethodHandle" ∧ yX1_requireState.cls ≠ "java/lang/invoke/VarHandle" ∧ (parseMethodDescriptor yX1_requireState.desc).map (fun d => d.parameters.length) = some 1 := by decide +kernel
theorem atX1_requireState31_in : ∀ w ∈ vx_at0 "SpindleActors" 31 "java/lang/IllegalStateException" ["java/lang/RuntimeException", "java/lang/Exception"], w ∈ lw_all ∨ (w ∈ lw_tbl ∧ gkW w = true) := by decide +kernel
theorem atX1_requireState31_ok {args : Array Value} {s : State} (h1 : ∀ w ∈ lw_all, w.before args s = true) (h2 : ∀ w, w ∈ lw_tbl ∧ gkW w = true → w.before args s = true) : ∀ w ∈ vx_at0 "SpindleActors" 31 "java/lang/IllegalStateException" ["java/lang/RuntimeException", "java/lang/Exception"], w.before args s = true := fun w hw => (atX1_requireState31_in w hw).elim (h1 w) (h2 w)
set_option maxHeartbeats 4000000 in
theorem mtX1_requireState {Γ : gT} {l : Launch} {mc ms : Nat} {a1 : Int32} {K : Prop} {X1 : Prop} (hlT : l.stackTraces = false) (hw : wpX1_requireState mc ms K X1 a1) : xV Γ l yX1_requireState (ws_ yX1_requireState cX1_requireState 1 none) (rmX1_requireState mc ms) (eN Γ) [.int a1] [] (fun u : Unit => []) (fun _ => K) (fun (E : String) (q : Nat) (bs : bW) => (E = "java/lang/IllegalStateException" ∧ bs = [] ∧ X1)) := by
  refine xV_of (by decide +kernel) (Nat.le_of_ble_eq_true rfl) ?_
  intro p e s m args below meth c ls A Q hQ X hr hlk hnm htb hE Y hl
  have hx := X.1
  have hb := X.2.1
  have hl : lv_has ls 1 [(0, .int a1)] := hl
  unfold wpX1_requireState at hw
  obtain ⟨H, hH⟩ : ∃ H : Heap, H = s.heap := ⟨_, rfl⟩
  obtain ⟨locs, hlo⟩ : ∃ locs : List Loc, locs = [] := ⟨_, rfl⟩
  rw [← hH, ← hlo] at Y
  rw [← hH, ← hlo]
  have hk : 0 ≤ mc ∧ 0 ≤ ms := ⟨Nat.zero_le _, Nat.zero_le _⟩
  refine lv_iload_n hx hb dX1_requireState_0 rfl (lv_at hl 0 rfl) ?_
  refine lv_if_ne (tgt := 12) hx hb dX1_requireState_1 (by decide) (fun hc => ?_) (fun hc => ?_)
  · have hw := hw.2 hc
    subst hQ
    exact vx_ret (re_v X Y hr hlk () rfl hw (hk.1) (hk.2) dX1_requireState_12)
  · have hw := hw.1 hc
    obtain ⟨hk, hw⟩ := hw
    subst hQ
    exact xo_throw0 (names := ["java/lang/RuntimeException", "java/lang/Exception"]) hlT X Y hE htb hlk (by decide +kernel) (by decide +kernel) (X.2.2.2.2.1 _ q2747) (X.2.2.2.2.1 _ q178) (atX1_requireState31_ok X.2.2.2.2.1 (fun w h => X.2.2.2.2.2.1.use h.1 h.2)) (by decide +kernel) hl.1 dX1_requireState_4 dX1_requireState_7 dX1_requireState_8 dX1_requireState_11 (Nat.le_of_ble_eq_true rfl) (Nat.le_of_ble_eq_true rfl) hk.1 hk.2 (fun q => ⟨rfl, rfl, hw⟩) hk.1 hk.2
def wpX1_requireDivisor (mc ms : Nat) (K : Prop) (X1 : Prop) (a1 : Int32) : Prop := (a1 = 0 → ((0 + 1 ≤ mc ∧ 0 + 6 ≤ ms) ∧ (X1))) ∧ (¬ a1 = 0 → (K))
abbrev rmX1_requireDivisor (mc ms : Nat) : Room := { frames := 7, cells := mc, slots := ms, locals := 93 }
theorem hdX1_requireDivisor : yX1_requireDivisor.cls ≠ "java/lang/invoke/MethodHandle" ∧ yX1_requireDivisor.cls ≠ "java/lang/invoke/VarHandle" ∧ (parseMethodDescriptor yX1_requireDivisor.desc).map (fun d => d.parameters.length) = some 1 := by decide +kernel
theorem atX1_requireDivisor330_in : ∀ w ∈ vx_at0 "SpindleActors" 330 "java/lang/ArithmeticException" ["java/lang/RuntimeException", "java/lang/Exception"], w ∈ lw_all ∨ (w ∈ lw_tbl ∧ gkW w = true) := by decide +kernel
theorem atX1_requireDivisor330_ok {args : Array Value} {s : State} (h1 : ∀ w ∈ lw_all, w.before args s = true) (h2 : ∀ w, w ∈ lw_tbl ∧ gkW w = true → w.before args s = true) : ∀ w ∈ vx_at0 "SpindleActors" 330 "java/lang/ArithmeticException" ["java/lang/RuntimeException", "java/lang/Exception"], w.before args s = true := fun w hw => (atX1_requireDivisor330_in w hw).elim (h1 w) (h2 w)
set_option maxHeartbeats 4000000 in
theorem mtX1_requireDivisor {Γ : gT} {l : Launch} {mc ms : Nat} {a1 : Int32} {K : Prop} {X1 : Prop} (hlT : l.stackTraces = false) (hw : wpX1_requireDivisor mc ms K X1 a1) : xV Γ l yX1_requireDivisor (ws_ yX1_requireDivisor cX1_requireDivisor 1 none) (rmX1_requireDivisor mc ms) (eN Γ) [.int a1] [] (fun u : Unit => []) (fun _ => K) (fun (E : String) (q : Nat) (bs : bW) => (E = "java/lang/ArithmeticException" ∧ bs = [] ∧ X1)) := by
  refine xV_of (by decide +kernel) (Nat.le_of_ble_eq_true rfl) ?_
  intro p e s m args below meth c ls A Q hQ X hr hlk hnm htb hE Y hl
  have hx := X.1
  have hb := X.2.1
  have hl : lv_has ls 1 [(0, .int a1)] := hl
  unfold wpX1_requireDivisor at hw
  obtain ⟨H, hH⟩ : ∃ H : Heap, H = s.heap := ⟨_, rfl⟩
  obtain ⟨locs, hlo⟩ : ∃ locs : List Loc, locs = [] := ⟨_, rfl⟩
  rw [← hH, ← hlo] at Y
  rw [← hH, ← hlo]
  have hk : 0 ≤ mc ∧ 0 ≤ ms := ⟨Nat.zero_le _, Nat.zero_le _⟩
  refine lv_iload_n hx hb dX1_requireDivisor_0 rfl (lv_at hl 0 rfl) ?_
  refine lv_if_ne (tgt := 12) hx hb dX1_requireDivisor_1 (by decide) (fun hc => ?_) (fun hc => ?_)
  · have hw := hw.2 hc
    subst hQ
    exact vx_ret (re_v X Y hr hlk () rfl hw (hk.1) (hk.2) dX1_requireDivisor_12)
  · have hw := hw.1 hc
    obtain ⟨hk, hw⟩ := hw
    subst hQ
    exact xo_throw0 (names := ["java/lang/RuntimeException", "java/lang/Exception"]) hlT X Y hE htb hlk (by decide +kernel) (by decide +kernel) (X.2.2.2.2.1 _ q2721) (X.2.2.2.2.1 _ q185) (atX1_requireDivisor330_ok X.2.2.2.2.1 (fun w h => X.2.2.2.2.2.1.use h.1 h.2)) (by decide +kernel) hl.1 dX1_requireDivisor_4 dX1_requireDivisor_7 dX1_requireDivisor_8 dX1_requireDivisor_11 (Nat.le_of_ble_eq_true rfl) (Nat.le_of_ble_eq_true rfl) hk.1 hk.2 (fun q => ⟨rfl, rfl, hw⟩) hk.1 hk.2
