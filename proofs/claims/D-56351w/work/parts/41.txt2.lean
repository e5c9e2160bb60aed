set_option maxRecDepth 100000
/-! texts, the rest: walks -/
def wpJ19_length (K : (Int32) → Prop)  (sv : Nat) (sn : Nat) (sf : Nat → Int32) : Prop := K (nI sn)
abbrev rmJ19_length : Room := { frames := 0, cells := 0, slots := 0, locals := 0 }
theorem hdJ19_length : yJ19_length.cls ≠ "java/lang/invoke/MethodHandle" ∧ yJ19_length.cls ≠ "java/lang/invoke/VarHandle" ∧ (parseMethodDescriptor yJ19_length.desc).map (fun d => d.parameters.length) = some 1 := by decide +kernel
set_option maxHeartbeats 4000000 in
theorem mtJ19_length {Γ : gT} {l : Launch} {sv : Nat} {sn : Nat} {sf : Nat → Int32} {K : (Int32) → Prop}  (hw : wpJ19_length K  sv sn sf) : cI Γ l yJ19_length (ws_ yJ19_length cJ19_length 1 (some .int)) rmJ19_length (eT3 sv sn sf) [.ref sv] [] (fun u : Unit => []) (fun r u => K r ) := by
  refine cI_of (by decide +kernel) (Nat.le_of_ble_eq_true rfl) ?_
  intro p e s m args below meth c ls A Q hQ X hr hlk hnm hE Y hl
  have hx := X.1
  have hb := X.2.1
  have hl : lv_has ls 1 [(0, .ref sv)] := hl
  unfold wpJ19_length at hw
  obtain ⟨H, hH⟩ : ∃ H : Heap, H = s.heap := ⟨_, rfl⟩
  obtain ⟨locs, hlo⟩ : ∃ locs : List Loc, locs = [] := ⟨_, rfl⟩
  rw [← hH, ← hlo] at Y
  rw [← hH, ← hlo]
  refine lv_aload_n hx hb dJ19_length_0 rfl (lv_at hl 0 rfl) ?_
  refine ro_len X Y hE dJ19_length_1 ?_
  subst hQ
  exact re_i X Y hr hlk () rfl rfl hw (Nat.le_of_ble_eq_true rfl) (Nat.le_of_ble_eq_true rfl) dJ19_length_2
def wpJ24_checkFromToIndex (K : (Int32) → Prop)  (a1 : Int32) (a2 : Int32) (a3 : Int32) (bf : Option Nat) : Prop := ∃ J1 : Prop, (J1 → (False)) ∧ ((a1 < 0 → (J1)) ∧ (¬ a1 < 0 → ((a2 < a1 → (J1)) ∧ (¬ a2 < a1 → ((a2 ≤ a3 → (K a1)) ∧ (¬ a2 ≤ a3 → (J1)))))))
abbrev rmJ24_checkFromToIndex : Room := { frames := 0, cells := 0, slots := 0, locals := 0 }
theorem hdJ24_checkFromToIndex : yJ24_checkFromToIndex.cls ≠ "java/lang/invoke/MethodHandle" ∧ yJ24_checkFromToIndex.cls ≠ "java/lang/invoke/VarHandle" ∧ (parseMethodDescriptor yJ24_checkFromToIndex.desc).map (fun d => d.parameters.length) = some 4 := by decide +kernel
set_option maxHeartbeats 4000000 in
theorem mtJ24_checkFromToIndex {Γ : gT} {l : Launch} {a1 : Int32} {a2 : Int32} {a3 : Int32} {bf : Option Nat} {K : (Int32) → Prop}  (hw : wpJ24_checkFromToIndex K  a1 a2 a3 bf) : cI Γ l yJ24_checkFromToIndex (ws_ yJ24_checkFromToIndex cJ24_checkFromToIndex 4 (some .int)) rmJ24_checkFromToIndex E0 [.int a1, .int a2, .int a3, va_rf bf] [] (fun u : Unit => []) (fun r u => K r ) := by
  refine cI_of (by decide +kernel) (by cases bf <;> exact Nat.le_of_ble_eq_true rfl) ?_
  intro p e s m args below meth c ls A Q hQ X hr hlk hnm hE Y hl
  have hx := X.1
  have hb := X.2.1
  have hl : lv_has ls 4 [(0, .int a1), (1, .int a2), (2, .int a3), (3, va_rf bf)] := (by first | exact hl | (simp only [lv_args, va_rf_cat, Value.category] at hl; exact hl))
  unfold wpJ24_checkFromToIndex at hw
  obtain ⟨H, hH⟩ : ∃ H : Heap, H = s.heap := ⟨_, rfl⟩
  obtain ⟨locs, hlo⟩ : ∃ locs : List Loc, locs = [] := ⟨_, rfl⟩
  rw [← hH, ← hlo] at Y
  rw [← hH, ← hlo]
  refine lv_iload_n hx hb dJ24_checkFromToIndex_0 rfl (lv_at hl 0 rfl) ?_
  obtain ⟨J1, hwR, hw⟩ := hw
  have hJ1 : ∀ (H : Heap) (locs : List Loc) (ls : Array Slot), J1  → Wo Γ A s H locs [] → lv_has ls 4 [(0, .int a1), (1, .int a2), (2, .int a3), (3, va_rf bf)] → W p l e rmJ24_checkFromToIndex s m args below meth c H locs 0 0 Q (F0 m 14 ls []) := by
    intro  H locs ls hw Y hl
    have hw := hwR  hw
    refine op_aload_n hx hb dJ24_checkFromToIndex_14 rfl (lv_at hl 3 rfl) ?_
    refine lv_iload_n hx hb dJ24_checkFromToIndex_15 rfl (lv_at hl 0 rfl) ?_
    refine lv_iload_n hx hb dJ24_checkFromToIndex_16 rfl (lv_at hl 1 rfl) ?_
    refine lv_iload_n hx hb dJ24_checkFromToIndex_17 rfl (lv_at hl 2 rfl) ?_
    exact hw.elim
  refine lv_if_lt (tgt := 14) hx hb dJ24_checkFromToIndex_1 (by decide) (fun hc => ?_) (fun hc => ?_)
  · have hw := hw.1 hc
    exact hJ1  H locs ls hw Y (lv_sub hl [0, 1, 2, 3] rfl)
  · have hw := hw.2 hc
    refine lv_iload_n hx hb dJ24_checkFromToIndex_4 rfl (lv_at hl 0 rfl) ?_
    refine lv_iload_n hx hb dJ24_checkFromToIndex_5 rfl (lv_at hl 1 rfl) ?_
    refine lv_icmp_gt (tgt := 14) hx hb dJ24_checkFromToIndex_6 (by decide) (fun hc => ?_) (fun hc => ?_)
    · have hw := hw.1 hc
      exact hJ1  H locs ls hw Y (lv_sub hl [0, 1, 2, 3] rfl)
    · have hw := hw.2 hc
      refine lv_iload_n hx hb dJ24_checkFromToIndex_9 rfl (lv_at hl 1 rfl) ?_
      refine lv_iload_n hx hb dJ24_checkFromToIndex_10 rfl (lv_at hl 2 rfl) ?_
      refine lv_icmp_le (tgt := 22) hx hb dJ24_checkFromToIndex_11 (by decide) (fun hc => ?_) (fun hc => ?_)
      · have hw := hw.1 hc
        refine lv_iload_n hx hb dJ24_checkFromToIndex_22 rfl (lv_at hl 0 rfl) ?_
        subst hQ
        exact re_i X Y hr hlk () rfl rfl hw (Nat.le_of_ble_eq_true rfl) (Nat.le_of_ble_eq_true rfl) dJ24_checkFromToIndex_23
      · have hw := hw.2 hc
        exact hJ1  H locs ls hw Y (lv_sub hl [0, 1, 2, 3] rfl)
def wpJ24_checkFromIndexSize (K : (Int32) → Prop)  (a1 : Int32) (a2 : Int32) (a3 : Int32) (bf : Option Nat) : Prop := ∃ J1 : Prop, (J1 → (False)) ∧ ((((a3 ||| a1) ||| a2) < 0 → (J1)) ∧ (¬ ((a3 ||| a1) ||| a2) < 0 → ((a2 ≤ (a3 - a1) → (K a1)) ∧ (¬ a2 ≤ (a3 - a1) → (J1)))))
abbrev rmJ24_checkFromIndexSize : Room := { frames := 0, cells := 0, slots := 0, locals := 0 }
theorem hdJ24_checkFromIndexSize : yJ24_checkFromIndexSize.cls ≠ "java/lang/invoke/MethodHandle" ∧ yJ24_checkFromIndexSize.cls ≠ "java/lang/invoke/VarHandle" ∧ (parseMethodDescriptor yJ24_checkFromIndexSize.desc).map (fun d => d.parameters.length) = some 4 := by decide +kernel
set_option maxHeartbeats 4000000 in
theorem mtJ24_checkFromIndexSize {Γ : gT} {l : Launch} {a1 : Int32} {a2 : Int32} {a3 : Int32} {bf : Option Nat} {K : (Int32) → Prop}  (hw : wpJ24_checkFromIndexSize K  a1 a2 a3 bf) : cI Γ l yJ24_checkFromIndexSize (ws_ yJ24_checkFromIndexSize cJ24_checkFromIndexSize 4 (some .int)) rmJ24_checkFromIndexSize E0 [.int a1, .int a2, .int a3, va_rf bf] [] (fun u : Unit => []) (fun r u => K r ) := by
  refine cI_of (by decide +kernel) (by cases bf <;> exact Nat.le_of_ble_eq_true rfl) ?_
  intro p e s m args below meth c ls A Q hQ X hr hlk hnm hE Y hl
  have hx := X.1
  have hb := X.2.1
  have hl : lv_has ls 4 [(0, .int a1), (1, .int a2), (2, .int a3), (3, va_rf bf)] := (by first | exact hl | (simp only [lv_args, va_rf_cat, Value.category] at hl; exact hl))
  unfold wpJ24_checkFromIndexSize at hw
  obtain ⟨H, hH⟩ : ∃ H : Heap, H = s.heap := ⟨_, rfl⟩
  obtain ⟨locs, hlo⟩ : ∃ locs : List Loc, locs = [] := ⟨_, rfl⟩
  rw [← hH, ← hlo] at Y
  rw [← hH, ← hlo]
  refine lv_iload_n hx hb dJ24_checkFromIndexSize_0 rfl (lv_at hl 2 rfl) ?_
  refine lv_iload_n hx hb dJ24_checkFromIndexSize_1 rfl (lv_at hl 0 rfl) ?_
  refine lv_ior hx hb dJ24_checkFromIndexSize_2 ?_
  refine lv_iload_n hx hb dJ24_checkFromIndexSize_3 rfl (lv_at hl 1 rfl) ?_
  refine lv_ior hx hb dJ24_checkFromIndexSize_4 ?_
  obtain ⟨J1, hwR, hw⟩ := hw
  have hJ1 : ∀ (H : Heap) (locs : List Loc) (ls : Array Slot), J1  → Wo Γ A s H locs [] → lv_has ls 4 [(0, .int a1), (1, .int a2), (2, .int a3), (3, va_rf bf)] → W p l e rmJ24_checkFromIndexSize s m args below meth c H locs 0 0 Q (F0 m 15 ls []) := by
    intro  H locs ls hw Y hl
    have hw := hwR  hw
    refine op_aload_n hx hb dJ24_checkFromIndexSize_15 rfl (lv_at hl 3 rfl) ?_
    refine lv_iload_n hx hb dJ24_checkFromIndexSize_16 rfl (lv_at hl 0 rfl) ?_
    refine lv_iload_n hx hb dJ24_checkFromIndexSize_17 rfl (lv_at hl 1 rfl) ?_
    refine lv_iload_n hx hb dJ24_checkFromIndexSize_18 rfl (lv_at hl 2 rfl) ?_
    exact hw.elim
  refine lv_if_lt (tgt := 15) hx hb dJ24_checkFromIndexSize_5 (by decide) (fun hc => ?_) (fun hc => ?_)
  · have hw := hw.1 hc
    exact hJ1  H locs ls hw Y (lv_sub hl [0, 1, 2, 3] rfl)
  · have hw := hw.2 hc
    refine lv_iload_n hx hb dJ24_checkFromIndexSize_8 rfl (lv_at hl 1 rfl) ?_
    refine lv_iload_n hx hb dJ24_checkFromIndexSize_9 rfl (lv_at hl 2 rfl) ?_
    refine lv_iload_n hx hb dJ24_checkFromIndexSize_10 rfl (lv_at hl 0 rfl) ?_
    refine lv_isub hx hb dJ24_checkFromIndexSize_11 ?_
    refine lv_icmp_le (tgt := 23) hx hb dJ24_checkFromIndexSize_12 (by decide) (fun hc => ?_) (fun hc => ?_)
    · have hw := hw.1 hc
      refine lv_iload_n hx hb dJ24_checkFromIndexSize_23 rfl (lv_at hl 0 rfl) ?_
      subst hQ
      exact re_i X Y hr hlk () rfl rfl hw (Nat.le_of_ble_eq_true rfl) (Nat.le_of_ble_eq_true rfl) dJ24_checkFromIndexSize_24
    · have hw := hw.2 hc
      exact hJ1  H locs ls hw Y (lv_sub hl [0, 1, 2, 3] rfl)
def wpJ7_checkIndex (K : Prop)  (a1 : Int32) (a2 : Int32) : Prop := ∀ s1 : Option Nat, (wpJ24_checkIndex (fun r2 => (K))  a1 a2 s1)
abbrev rmJ7_checkIndex : Room := { frames := 1, cells := 0, slots := 0, locals := 22 }
theorem hdJ7_checkIndex : yJ7_checkIndex.cls ≠ "java/lang/invoke/MethodHandle" ∧ yJ7_checkIndex.cls ≠ "java/lang/invoke/VarHandle" ∧ (parseMethodDescriptor yJ7_checkIndex.desc).map (fun d => d.parameters.length) = some 2 := by decide +kernel
set_option maxHeartbeats 4000000 in
theorem mtJ7_checkIndex {Γ : gT} {l : Launch} {a1 : Int32} {a2 : Int32} {K : Prop}  (hw : wpJ7_checkIndex K  a1 a2) : cV Γ l yJ7_checkIndex (ws_ yJ7_checkIndex cJ7_checkIndex 2 none) rmJ7_checkIndex (eN Γ) [.int a1, .int a2] [] (fun u : Unit => []) (fun _ => K) := by
  refine cV_of (by decide +kernel) (Nat.le_of_ble_eq_true rfl) ?_
  intro p e s m args below meth c ls A Q hQ X hr hlk hnm hE Y hl
  have hx := X.1
  have hb := X.2.1
  have hl : lv_has ls 2 [(0, .int a1), (1, .int a2)] := hl
  unfold wpJ7_checkIndex at hw
  obtain ⟨H, hH⟩ : ∃ H : Heap, H = s.heap := ⟨_, rfl⟩
  obtain ⟨locs, hlo⟩ : ∃ locs : List Loc, locs = [] := ⟨_, rfl⟩
  rw [← hH, ← hlo] at Y
  rw [← hH, ← hlo]
  refine lv_iload_n hx hb dJ7_checkIndex_0 rfl (lv_at hl 0 rfl) ?_
  refine lv_iload_n hx hb dJ7_checkIndex_1 rfl (lv_at hl 1 rfl) ?_
  refine st_getQ X Y hE 2 rfl (X.2.2.2.2.1 _ q559) dJ7_checkIndex_2 (fun s1 => ?_)
  have hw := hw s1
  refine cl_SI X Y [] [] rfl rfl rfl E0_bl (fun _ _ _ => trivial) (mtJ24_checkIndex (Γ := Γ) (l := l) hw) (lw_S q1456 q1457 q164 q1458) hdJ24_checkIndex ⟨Nat.le_of_ble_eq_true rfl, Nat.le_of_ble_eq_true rfl⟩ rfl hl.1 rfl (Nat.le_of_ble_eq_true rfl) dJ7_checkIndex_5 ⟨Nat.le_of_ble_eq_true rfl, Nat.le_of_ble_eq_true rfl⟩ (fun r2 u H locs hw Y => ?_)
  have Y : Wo Γ A s H locs [] := Y
  refine lv_pop hx hb dJ7_checkIndex_8 rfl ?_
  subst hQ
  exact re_v X Y hr hlk () rfl hw (Nat.le_of_ble_eq_true rfl) (Nat.le_of_ble_eq_true rfl) dJ7_checkIndex_9
def wpJ19_charAt (K : (Int32) → Prop)  (sv : Nat) (sn : Nat) (sf : Nat → Int32) (a1 : Int32) : Prop := wpJ7_checkIndex (vp_in a1 sn ∧ (narrow .char (.int ((((sf a1.toNatClampNeg) &&& 255).toUInt32 % 65536).toInt32)) = .int ((((sf a1.toNatClampNeg) &&& 255).toUInt32 % 65536).toInt32) ∧ K ((((sf a1.toNatClampNeg) &&& 255).toUInt32 % 65536).toInt32)))  a1 (nI sn)
abbrev rmJ19_charAt : Room := { frames := 2, cells := 0, slots := 0, locals := 43 }
theorem hdJ19_charAt : yJ19_charAt.cls ≠ "java/lang/invoke/MethodHandle" ∧ yJ19_charAt.cls ≠ "java/lang/invoke/VarHandle" ∧ (parseMethodDescriptor yJ19_charAt.desc).map (fun d => d.parameters.length) = some 2 := by decide +kernel
set_option maxHeartbeats 4000000 in
theorem mtJ19_charAt {Γ : gT} {l : Launch} {sv : Nat} {sn : Nat} {sf : Nat → Int32} {a1 : Int32} {K : (Int32) → Prop}  (hw : wpJ19_charAt K  sv sn sf a1) : cI Γ l yJ19_charAt (ws_ yJ19_charAt cJ19_charAt 2 (some .char)) rmJ19_charAt (eA (eT3 sv sn sf) (eN Γ)) [.ref sv, .int a1] [] (fun u : Unit => []) (fun r u => K r ) := by
  refine cI_of (by decide +kernel) (Nat.le_of_ble_eq_true rfl) ?_
  intro p e s m args below meth c ls A Q hQ X hr hlk hnm hE Y hl
  have hx := X.1
  have hb := X.2.1
  have hl : lv_has ls 2 [(0, .ref sv), (1, .int a1)] := hl
  unfold wpJ19_charAt at hw
  obtain ⟨H, hH⟩ : ∃ H : Heap, H = s.heap := ⟨_, rfl⟩
  obtain ⟨locs, hlo⟩ : ∃ locs : List Loc, locs = [] := ⟨_, rfl⟩
  rw [← hH, ← hlo] at Y
  rw [← hH, ← hlo]
  refine lv_iload_n hx hb dJ19_charAt_0 rfl (lv_at hl 1 rfl) ?_
  refine lv_aload_n hx hb dJ19_charAt_1 rfl (lv_at hl 0 rfl) ?_
  refine ro_len X Y hE.1 dJ19_charAt_2 ?_
  refine cl_SV X Y [] [] rfl rfl rfl eN_bl (fun U hU hW => ((eN_tr.at X hE.2 Y [] [] rfl rfl) U hU hW)) (mtJ7_checkIndex (Γ := Γ) (l := l) hw) (lw_S q1453 q1454 q141 q1455) hdJ7_checkIndex ⟨Nat.le_of_ble_eq_true rfl, Nat.le_of_ble_eq_true rfl⟩ rfl hl.1 rfl (Nat.le_of_ble_eq_true rfl) dJ19_charAt_3 ⟨Nat.le_of_ble_eq_true rfl, Nat.le_of_ble_eq_true rfl⟩ (fun  u H locs hw Y => ?_)
  have Y : Wo Γ A s H locs [] := Y
  refine lv_aload_n hx hb dJ19_charAt_6 rfl (lv_at hl 0 rfl) ?_
  refine lv_iload_n hx hb dJ19_charAt_7 rfl (lv_at hl 1 rfl) ?_
  refine ro_ald X Y hE.1 hw.1 dJ19_charAt_8 ?_
  have hw := hw.2
  refine lv_sipush (v := 255) hx hb dJ19_charAt_9 rfl ?_
  refine lv_iand hx hb dJ19_charAt_12 ?_
  refine lv_i2c hx hb dJ19_charAt_13 rfl ?_
  subst hQ
  exact re_i X Y hr hlk () rfl hw.1 hw.2 (Nat.le_of_ble_eq_true rfl) (Nat.le_of_ble_eq_true rfl) dJ19_charAt_14
def wpJ19_charAtw (K : (Int32) → Prop)  (va : Nat) (cp : Nat) (f : Nat → Int32) (a1 : Int32) : Prop := wpJ7_checkIndex (vp_in a1 cp ∧ (narrow .char (.int ((((f a1.toNatClampNeg) &&& 255).toUInt32 % 65536).toInt32)) = .int ((((f a1.toNatClampNeg) &&& 255).toUInt32 % 65536).toInt32) ∧ K ((((f a1.toNatClampNeg) &&& 255).toUInt32 % 65536).toInt32)))  a1 (nI cp)
abbrev rmJ19_charAtw : Room := { frames := 2, cells := 0, slots := 0, locals := 43 }
set_option maxHeartbeats 4000000 in
theorem mtJ19_charAtw {Γ : gT} {l : Launch} {va : Nat} {cp : Nat} {f : Nat → Int32} {a1 : Int32} {K : (Int32) → Prop}  (hw : wpJ19_charAtw K  va cp f a1) : cI Γ l yJ19_charAt (ws_ yJ19_charAt cJ19_charAt 2 (some .char)) rmJ19_charAtw (eN Γ) [.ref va, .int a1] [[(va, .inl (Γ.2.1 3, cp, .inl f))]] (fun u : Unit => [[(va, .inl (Γ.2.1 3, cp, .inl f))]]) (fun r u => K r ) := by
  refine cI_of (by decide +kernel) (Nat.le_of_ble_eq_true rfl) ?_
  intro p e s m args below meth c ls A Q hQ X hr hlk hnm hE Y hl
  have hx := X.1
  have hb := X.2.1
  have hl : lv_has ls 2 [(0, .ref va), (1, .int a1)] := hl
  unfold wpJ19_charAtw at hw
  obtain ⟨H, hH⟩ : ∃ H : Heap, H = s.heap := ⟨_, rfl⟩
  obtain ⟨locs, hlo⟩ : ∃ locs : List Loc, locs = [] := ⟨_, rfl⟩
  rw [← hH, ← hlo] at Y
  rw [← hH, ← hlo]
  refine lv_iload_n hx hb dJ19_charAt_0 rfl (lv_at hl 1 rfl) ?_
  refine lv_aload_n hx hb dJ19_charAt_1 rfl (lv_at hl 0 rfl) ?_
  refine ar_len X Y 0 rfl (t := 3) rfl dJ19_charAt_2 ?_
  refine cl_SV X Y [] [0] rfl rfl rfl eN_bl (fun U hU hW => ((eN_tr.at X hE Y [] [0] rfl rfl) U hU hW)) (mtJ7_checkIndex (Γ := Γ) (l := l) hw) (lw_S q1453 q1454 q141 q1455) hdJ7_checkIndex ⟨Nat.le_of_ble_eq_true rfl, Nat.le_of_ble_eq_true rfl⟩ rfl hl.1 rfl (Nat.le_of_ble_eq_true rfl) dJ19_charAt_3 ⟨Nat.le_of_ble_eq_true rfl, Nat.le_of_ble_eq_true rfl⟩ (fun  u H locs hw Y => ?_)
  have Y : Wo Γ A s H locs [[(va, .inl (Γ.2.1 3, cp, .inl f))]] := Y
  refine lv_aload_n hx hb dJ19_charAt_6 rfl (lv_at hl 0 rfl) ?_
  refine lv_iload_n hx hb dJ19_charAt_7 rfl (lv_at hl 1 rfl) ?_
  refine ar_ald3 X Y 0 rfl hw.1 dJ19_charAt_8 ?_
  have hw := hw.2
  refine lv_sipush (v := 255) hx hb dJ19_charAt_9 rfl ?_
  refine lv_iand hx hb dJ19_charAt_12 ?_
  refine lv_i2c hx hb dJ19_charAt_13 rfl ?_
  subst hQ
  exact re_i X Y hr hlk () rfl hw.1 hw.2 (Nat.le_of_ble_eq_true rfl) (Nat.le_of_ble_eq_true rfl) dJ19_charAt_14
def wpJ7_checkOffset (K : Prop)  (a1 : Int32) (a2 : Int32) : Prop := ∀ s1 : Option Nat, (wpJ24_checkFromToIndex (fun r2 => (K))  a1 a2 a2 s1)
abbrev rmJ7_checkOffset : Room := { frames := 1, cells := 0, slots := 0, locals := 23 }
theorem hdJ7_checkOffset : yJ7_checkOffset.cls ≠ "java/lang/invoke/MethodHandle" ∧ yJ7_checkOffset.cls ≠ "java/lang/invoke/VarHandle" ∧ (parseMethodDescriptor yJ7_checkOffset.desc).map (fun d => d.parameters.length) = some 2 := by decide +kernel
set_option maxHeartbeats 4000000 in
theorem mtJ7_checkOffset {Γ : gT} {l : Launch} {a1 : Int32} {a2 : Int32} {K : Prop}  (hw : wpJ7_checkOffset K  a1 a2) : cV Γ l yJ7_checkOffset (ws_ yJ7_checkOffset cJ7_checkOffset 2 none) rmJ7_checkOffset (eN Γ) [.int a1, .int a2] [] (fun u : Unit => []) (fun _ => K) := by
  refine cV_of (by decide +kernel) (Nat.le_of_ble_eq_true rfl) ?_
  intro p e s m args below meth c ls A Q hQ X hr hlk hnm hE Y hl
  have hx := X.1
  have hb := X.2.1
  have hl : lv_has ls 2 [(0, .int a1), (1, .int a2)] := hl
  unfold wpJ7_checkOffset at hw
  obtain ⟨H, hH⟩ : ∃ H : Heap, H = s.heap := ⟨_, rfl⟩
  obtain ⟨locs, hlo⟩ : ∃ locs : List Loc, locs = [] := ⟨_, rfl⟩
  rw [← hH, ← hlo] at Y
  rw [← hH, ← hlo]
  refine lv_iload_n hx hb dJ7_checkOffset_0 rfl (lv_at hl 0 rfl) ?_
  refine lv_iload_n hx hb dJ7_checkOffset_1 rfl (lv_at hl 1 rfl) ?_
  refine lv_iload_n hx hb dJ7_checkOffset_2 rfl (lv_at hl 1 rfl) ?_
  refine st_getQ X Y hE 2 rfl (X.2.2.2.2.1 _ q559) dJ7_checkOffset_3 (fun s1 => ?_)
  have hw := hw s1
  refine cl_SI X Y [] [] rfl rfl rfl E0_bl (fun _ _ _ => trivial) (mtJ24_checkFromToIndex (Γ := Γ) (l := l) hw) (lw_S q561 q562 q164 q563) hdJ24_checkFromToIndex ⟨Nat.le_of_ble_eq_true rfl, Nat.le_of_ble_eq_true rfl⟩ rfl hl.1 rfl (Nat.le_of_ble_eq_true rfl) dJ7_checkOffset_6 ⟨Nat.le_of_ble_eq_true rfl, Nat.le_of_ble_eq_true rfl⟩ (fun r2 u H locs hw Y => ?_)
  have Y : Wo Γ A s H locs [] := Y
  refine lv_pop hx hb dJ7_checkOffset_9 rfl ?_
  subst hQ
  exact re_v X Y hr hlk () rfl hw (Nat.le_of_ble_eq_true rfl) (Nat.le_of_ble_eq_true rfl) dJ7_checkOffset_10
def wpJ7_checkBoundsBeginEnd (K : Prop)  (a1 : Int32) (a2 : Int32) (a3 : Int32) : Prop := ∀ s1 : Option Nat, (wpJ24_checkFromToIndex (fun r2 => (K))  a1 a2 a3 s1)
abbrev rmJ7_checkBoundsBeginEnd : Room := { frames := 1, cells := 0, slots := 0, locals := 23 }
theorem hdJ7_checkBoundsBeginEnd : yJ7_checkBoundsBeginEnd.cls ≠ "java/lang/invoke/MethodHandle" ∧ yJ7_checkBoundsBeginEnd.cls ≠ "java/lang/invoke/VarHandle" ∧ (parseMethodDescriptor yJ7_checkBoundsBeginEnd.desc).map (fun d => d.parameters.length) = some 3 := by decide +kernel
set_option maxHeartbeats 4000000 in
theorem mtJ7_checkBoundsBeginEnd {Γ : gT} {l : Launch} {a1 : Int32} {a2 : Int32} {a3 : Int32} {K : Prop}  (hw : wpJ7_checkBoundsBeginEnd K  a1 a2 a3) : cV Γ l yJ7_checkBoundsBeginEnd (ws_ yJ7_checkBoundsBeginEnd cJ7_checkBoundsBeginEnd 3 none) rmJ7_checkBoundsBeginEnd (eN Γ) [.int a1, .int a2, .int a3] [] (fun u : Unit => []) (fun _ => K) := by
  refine cV_of (by decide +kernel) (Nat.le_of_ble_eq_true rfl) ?_
  intro p e s m args below meth c ls A Q hQ X hr hlk hnm hE Y hl
  have hx := X.1
  have hb := X.2.1
  have hl : lv_has ls 3 [(0, .int a1), (1, .int a2), (2, .int a3)] := hl
  unfold wpJ7_checkBoundsBeginEnd at hw
  obtain ⟨H, hH⟩ : ∃ H : Heap, H = s.heap := ⟨_, rfl⟩
  obtain ⟨locs, hlo⟩ : ∃ locs : List Loc, locs = [] := ⟨_, rfl⟩
  rw [← hH, ← hlo] at Y
  rw [← hH, ← hlo]
  refine lv_iload_n hx hb dJ7_checkBoundsBeginEnd_0 rfl (lv_at hl 0 rfl) ?_
  refine lv_iload_n hx hb dJ7_checkBoundsBeginEnd_1 rfl (lv_at hl 1 rfl) ?_
  refine lv_iload_n hx hb dJ7_checkBoundsBeginEnd_2 rfl (lv_at hl 2 rfl) ?_
  refine st_getQ X Y hE 2 rfl (X.2.2.2.2.1 _ q559) dJ7_checkBoundsBeginEnd_3 (fun s1 => ?_)
  have hw := hw s1
  refine cl_SI X Y [] [] rfl rfl rfl E0_bl (fun _ _ _ => trivial) (mtJ24_checkFromToIndex (Γ := Γ) (l := l) hw) (lw_S q561 q562 q164 q563) hdJ24_checkFromToIndex ⟨Nat.le_of_ble_eq_true rfl, Nat.le_of_ble_eq_true rfl⟩ rfl hl.1 rfl (Nat.le_of_ble_eq_true rfl) dJ7_checkBoundsBeginEnd_6 ⟨Nat.le_of_ble_eq_true rfl, Nat.le_of_ble_eq_true rfl⟩ (fun r2 u H locs hw Y => ?_)
  have Y : Wo Γ A s H locs [] := Y
  refine lv_pop hx hb dJ7_checkBoundsBeginEnd_9 rfl ?_
  subst hQ
  exact re_v X Y hr hlk () rfl hw (Nat.le_of_ble_eq_true rfl) (Nat.le_of_ble_eq_true rfl) dJ7_checkBoundsBeginEnd_10
def wpJ7_checkBoundsOffCount (K : (Int32) → Prop)  (a1 : Int32) (a2 : Int32) (a3 : Int32) : Prop := ∀ s1 : Option Nat, (wpJ24_checkFromIndexSize (fun r2 => (K r2))  a1 a2 a3 s1)
abbrev rmJ7_checkBoundsOffCount : Room := { frames := 1, cells := 0, slots := 0, locals := 23 }
theorem hdJ7_checkBoundsOffCount : yJ7_checkBoundsOffCount.cls ≠ "java/lang/invoke/MethodHandle" ∧ yJ7_checkBoundsOffCount.cls ≠ "java/lang/invoke/VarHandle" ∧ (parseMethodDescriptor yJ7_checkBoundsOffCount.desc).map (fun d => d.parameters.length) = some 3 := by decide +kernel
set_option maxHeartbeats 4000000 in
theorem mtJ7_checkBoundsOffCount {Γ : gT} {l : Launch} {a1 : Int32} {a2 : Int32} {a3 : Int32} {K : (Int32) → Prop}  (hw : wpJ7_checkBoundsOffCount K  a1 a2 a3) : cI Γ l yJ7_checkBoundsOffCount (ws_ yJ7_checkBoundsOffCount cJ7_checkBoundsOffCount 3 (some .int)) rmJ7_checkBoundsOffCount (eN Γ) [.int a1, .int a2, .int a3] [] (fun u : Unit => []) (fun r u => K r ) := by
  refine cI_of (by decide +kernel) (Nat.le_of_ble_eq_true rfl) ?_
  intro p e s m args below meth c ls A Q hQ X hr hlk hnm hE Y hl
  have hx := X.1
  have hb := X.2.1
  have hl : lv_has ls 3 [(0, .int a1), (1, .int a2), (2, .int a3)] := hl
  unfold wpJ7_checkBoundsOffCount at hw
  obtain ⟨H, hH⟩ : ∃ H : Heap, H = s.heap := ⟨_, rfl⟩
  obtain ⟨locs, hlo⟩ : ∃ locs : List Loc, locs = [] := ⟨_, rfl⟩
  rw [← hH, ← hlo] at Y
  rw [← hH, ← hlo]
  refine lv_iload_n hx hb dJ7_checkBoundsOffCount_0 rfl (lv_at hl 0 rfl) ?_
  refine lv_iload_n hx hb dJ7_checkBoundsOffCount_1 rfl (lv_at hl 1 rfl) ?_
  refine lv_iload_n hx hb dJ7_checkBoundsOffCount_2 rfl (lv_at hl 2 rfl) ?_
  refine st_getQ X Y hE 2 rfl (X.2.2.2.2.1 _ q559) dJ7_checkBoundsOffCount_3 (fun s1 => ?_)
  have hw := hw s1
  refine cl_SI X Y [] [] rfl rfl rfl E0_bl (fun _ _ _ => trivial) (mtJ24_checkFromIndexSize (Γ := Γ) (l := l) hw) (lw_S q834 q835 q164 q836) hdJ24_checkFromIndexSize ⟨Nat.le_of_ble_eq_true rfl, Nat.le_of_ble_eq_true rfl⟩ rfl hl.1 rfl (Nat.le_of_ble_eq_true rfl) dJ7_checkBoundsOffCount_6 ⟨Nat.le_of_ble_eq_true rfl, Nat.le_of_ble_eq_true rfl⟩ (fun r2 u H locs hw Y => ?_)
  have Y : Wo Γ A s H locs [] := Y
  subst hQ
  exact re_i X Y hr hlk () rfl rfl hw (Nat.le_of_ble_eq_true rfl) (Nat.le_of_ble_eq_true rfl) dJ7_checkBoundsOffCount_9
def wpJ19_indexOfChar (K : (Int32) → Prop)  (sv : Nat) (sn : Nat) (sf : Nat → Int32) (a1 : Int32) (a2 : Int32) (a3 : Int32) : Prop := ∃ I1 : Nat → (Int32) → Prop, (∃ n, I1 n a2) ∧ ∀ (n2 : Nat) (x3 : Int32), I1 n2 x3 → ((a3 ≤ x3 → (K (-1))) ∧ (¬ a3 ≤ x3 → (vp_in x3 sn ∧ (((sf x3.toNatClampNeg) = a1.toInt8.toInt32 → (K x3)) ∧ (¬ (sf x3.toNatClampNeg) = a1.toInt8.toInt32 → (∃ n4, n4 < n2 ∧ I1 n4 (x3 + 1)))))))
abbrev rmJ19_indexOfChar : Room := { frames := 0, cells := 0, slots := 0, locals := 0 }
theorem hdJ19_indexOfChar : yJ19_indexOfChar.cls ≠ "java/lang/invoke/MethodHandle" ∧ yJ19_indexOfChar.cls ≠ "java/lang/invoke/VarHandle" ∧ (parseMethodDescriptor yJ19_indexOfChar.desc).map (fun d => d.parameters.length) = some 4 := by decide +kernel
set_option maxHeartbeats 4000000 in
theorem mtJ19_indexOfChar {Γ : gT} {l : Launch} {sv : Nat} {sn : Nat} {sf : Nat → Int32} {a1 : Int32} {a2 : Int32} {a3 : Int32} {K : (Int32) → Prop}  (hw : wpJ19_indexOfChar K  sv sn sf a1 a2 a3) : cI Γ l yJ19_indexOfChar (ws_ yJ19_indexOfChar cJ19_indexOfChar 6 (some .int)) rmJ19_indexOfChar (eA (eT3 sv sn sf) (eN Γ)) [.ref sv, .int a1, .int a2, .int a3] [] (fun u : Unit => []) (fun r u => K r ) := by
  refine cI_of (by decide +kernel) (Nat.le_of_ble_eq_true rfl) ?_
  intro p e s m args below meth c ls A Q hQ X hr hlk hnm hE Y hl
  have hx := X.1
  have hb := X.2.1
  have hl : lv_has ls 6 [(0, .ref sv), (1, .int a1), (2, .int a2), (3, .int a3)] := hl
  unfold wpJ19_indexOfChar at hw
  obtain ⟨H, hH⟩ : ∃ H : Heap, H = s.heap := ⟨_, rfl⟩
  obtain ⟨locs, hlo⟩ : ∃ locs : List Loc, locs = [] := ⟨_, rfl⟩
  rw [← hH, ← hlo] at Y
  rw [← hH, ← hlo]
  refine lv_iload_n hx hb dJ19_indexOfChar_0 rfl (lv_at hl 1 rfl) ?_
  refine lv_i2b hx hb dJ19_indexOfChar_1 rfl ?_
  refine lv_istore (lv' := [(4, .int a1.toInt8.toInt32), (0, .ref sv), (1, .int a1), (2, .int a2), (3, .int a3)]) hx hb dJ19_indexOfChar_2 hl (by decide) rfl (fun ls hl => ?_)
  refine lv_iload_n hx hb dJ19_indexOfChar_4 rfl (lv_at hl 3 rfl) ?_
  refine lv_istore (lv' := [(5, .int a2), (4, .int a1.toInt8.toInt32), (0, .ref sv), (1, .int a1), (2, .int a2), (3, .int a3)]) hx hb dJ19_indexOfChar_5 hl (by decide) rfl (fun ls hl => ?_)
  obtain ⟨I1, hw0, hwI⟩ := hw
  have hI1 : ∀ (n2 : Nat) (x3 : Int32) (H : Heap) (locs : List Loc) (ls : Array Slot), I1 n2 x3 → Wo Γ A s H locs [] → lv_has ls 6 [(0, .ref sv), (3, .int a3), (4, .int a1.toInt8.toInt32), (5, .int x3)] → W p l e rmJ19_indexOfChar s m args below meth c H locs 0 0 Q (F0 m 7 ls []) := by
    intro n2
    induction n2 using Nat.strongRecOn with
    | ind n2 ihn2 =>
      intro x3 H locs ls hw Y hl
      have hw := hwI n2 x3 hw
      refine lv_iload hx hb dJ19_indexOfChar_7 (lv_at hl 3 rfl) ?_
      refine lv_iload_n hx hb dJ19_indexOfChar_9 rfl (lv_at hl 1 rfl) ?_
      refine lv_icmp_ge (tgt := 31) hx hb dJ19_indexOfChar_10 (by decide) (fun hc => ?_) (fun hc => ?_)
      · have hw := hw.1 hc
        refine lv_iconst (v := (-1)) hx hb dJ19_indexOfChar_31 rfl ?_
        subst hQ
        exact re_i X Y hr hlk () rfl rfl hw (Nat.le_of_ble_eq_true rfl) (Nat.le_of_ble_eq_true rfl) dJ19_indexOfChar_32
      · have hw := hw.2 hc
        refine lv_aload_n hx hb dJ19_indexOfChar_13 rfl (lv_at hl 0 rfl) ?_
        refine lv_iload hx hb dJ19_indexOfChar_14 (lv_at hl 3 rfl) ?_
        refine ro_ald X Y hE.1 hw.1 dJ19_indexOfChar_16 ?_
        have hw := hw.2
        refine lv_iload hx hb dJ19_indexOfChar_17 (lv_at hl 2 rfl) ?_
        refine lv_icmp_ne (tgt := 25) hx hb dJ19_indexOfChar_19 (by decide) (fun hc => ?_) (fun hc => ?_)
        · have hw := hw.2 hc
          refine lv_iinc (v := x3 + 1) (lv' := [(5, .int (x3 + 1)), (0, .ref sv), (3, .int a3), (4, .int a1.toInt8.toInt32)]) hx hb dJ19_indexOfChar_25 hl (k := 3) rfl rfl (by decide) rfl (fun ls hl => ?_)
          refine lv_goto (tgt := 7) hx hb dJ19_indexOfChar_28 (by decide) ?_
          obtain ⟨n4, hlt, hw⟩ := hw
          exact ihn2 n4 hlt (x3 + 1) H locs ls hw Y (lv_sub hl [1, 2, 3, 0] rfl)
        · have hw := hw.1 hc
          refine lv_iload hx hb dJ19_indexOfChar_22 (lv_at hl 3 rfl) ?_
          subst hQ
          exact re_i X Y hr hlk () rfl rfl hw (Nat.le_of_ble_eq_true rfl) (Nat.le_of_ble_eq_true rfl) dJ19_indexOfChar_24
  obtain ⟨n0, hw0⟩ := hw0
  exact hI1 n0 a2 H locs ls hw0 Y (lv_sub hl [2, 5, 1, 0] rfl)
def wpJ19_indexOf (K : (Int32) → Prop)  (sv : Nat) (sn : Nat) (sf : Nat → Int32) (a1 : Int32) (a2 : Int32) (a3 : Int32) : Prop := wpJ19_canEncode (fun r1 => ((r1 = 0 → (K (-1))) ∧ (¬ r1 = 0 → (((if a2 < 0 then 0 else a2) < (if (nI sn) < a3 then (nI sn) else a3) → (wpJ19_indexOfChar (fun r2 => (K r2))  sv sn sf a1 (if a2 < 0 then 0 else a2) (if (nI sn) < a3 then (nI sn) else a3))) ∧ (¬ (if a2 < 0 then 0 else a2) < (if (nI sn) < a3 then (nI sn) else a3) → (K (-1)))))))  a1
abbrev rmJ19_indexOf : Room := { frames := 1, cells := 0, slots := 0, locals := 25 }
theorem hdJ19_indexOf : yJ19_indexOf.cls ≠ "java/lang/invoke/MethodHandle" ∧ yJ19_indexOf.cls ≠ "java/lang/invoke/VarHandle" ∧ (parseMethodDescriptor yJ19_indexOf.desc).map (fun d => d.parameters.length) = some 4 := by decide +kernel
set_option maxHeartbeats 4000000 in
theorem mtJ19_indexOf {Γ : gT} {l : Launch} {sv : Nat} {sn : Nat} {sf : Nat → Int32} {a1 : Int32} {a2 : Int32} {a3 : Int32} {K : (Int32) → Prop}  (hw : wpJ19_indexOf K  sv sn sf a1 a2 a3) : cI Γ l yJ19_indexOf (ws_ yJ19_indexOf cJ19_indexOf 4 (some .int)) rmJ19_indexOf (eA (eT3 sv sn sf) (eN Γ)) [.ref sv, .int a1, .int a2, .int a3] [] (fun u : Unit => []) (fun r u => K r ) := by
  refine cI_of (by decide +kernel) (Nat.le_of_ble_eq_true rfl) ?_
  intro p e s m args below meth c ls A Q hQ X hr hlk hnm hE Y hl
  have hx := X.1
  have hb := X.2.1
  have hl : lv_has ls 4 [(0, .ref sv), (1, .int a1), (2, .int a2), (3, .int a3)] := hl
  unfold wpJ19_indexOf at hw
  obtain ⟨H, hH⟩ : ∃ H : Heap, H = s.heap := ⟨_, rfl⟩
  obtain ⟨locs, hlo⟩ : ∃ locs : List Loc, locs = [] := ⟨_, rfl⟩
  rw [← hH, ← hlo] at Y
  rw [← hH, ← hlo]
  refine lv_iload_n hx hb dJ19_indexOf_0 rfl (lv_at hl 1 rfl) ?_
  refine cl_SI X Y [] [] rfl rfl rfl E0_bl (fun _ _ _ => trivial) (mtJ19_canEncode (Γ := Γ) (l := l) hw) (lw_S q529 q530 q158 q531) hdJ19_canEncode ⟨Nat.le_of_ble_eq_true rfl, Nat.le_of_ble_eq_true rfl⟩ rfl hl.1 rfl (Nat.le_of_ble_eq_true rfl) dJ19_indexOf_1 ⟨Nat.le_of_ble_eq_true rfl, Nat.le_of_ble_eq_true rfl⟩ (fun r1 u H locs hw Y => ?_)
  have Y : Wo Γ A s H locs [] := Y
  refine lv_if_ne (tgt := 9) hx hb dJ19_indexOf_4 (by decide) (fun hc => ?_) (fun hc => ?_)
  · have hw := hw.2 hc
    refine lv_iload_n hx hb dJ19_indexOf_9 rfl (lv_at hl 2 rfl) ?_
    refine lv_iconst (v := 0) hx hb dJ19_indexOf_10 rfl ?_
    refine va_mmax hx hb (X.2.2.1.trans hl.1.symm) X.2.2.2.1 (X.2.2.2.2.1 _ q532) (X.2.2.2.2.1 _ q533) (X.2.2.2.2.1 _ q159) (X.2.2.2.2.1 _ q534) (Nat.le_of_ble_eq_true rfl) (Nat.le_of_ble_eq_true rfl) (Nat.le_of_ble_eq_true rfl) (Nat.le_of_ble_eq_true rfl) dJ19_indexOf_11 ?_
    refine lv_istore_n (lv' := [(2, .int (if a2 < 0 then 0 else a2)), (0, .ref sv), (1, .int a1), (3, .int a3)]) hx hb dJ19_indexOf_14 rfl hl (by decide) rfl (fun ls hl => ?_)
    refine lv_iload_n hx hb dJ19_indexOf_15 rfl (lv_at hl 3 rfl) ?_
    refine lv_aload_n hx hb dJ19_indexOf_16 rfl (lv_at hl 1 rfl) ?_
    refine ro_len X Y hE.1 dJ19_indexOf_17 ?_
    refine va_mmin hx hb (X.2.2.1.trans hl.1.symm) X.2.2.2.1 (X.2.2.2.2.1 _ q535) (X.2.2.2.2.1 _ q536) (X.2.2.2.2.1 _ q159) (X.2.2.2.2.1 _ q537) (Nat.le_of_ble_eq_true rfl) (Nat.le_of_ble_eq_true rfl) (Nat.le_of_ble_eq_true rfl) (Nat.le_of_ble_eq_true rfl) dJ19_indexOf_18 ?_
    refine lv_istore_n (lv' := [(3, .int (if (nI sn) < a3 then (nI sn) else a3)), (2, .int (if a2 < 0 then 0 else a2)), (0, .ref sv), (1, .int a1)]) hx hb dJ19_indexOf_21 rfl hl (by decide) rfl (fun ls hl => ?_)
    refine lv_iload_n hx hb dJ19_indexOf_22 rfl (lv_at hl 1 rfl) ?_
    refine lv_iload_n hx hb dJ19_indexOf_23 rfl (lv_at hl 0 rfl) ?_
    refine lv_icmp_lt (tgt := 29) hx hb dJ19_indexOf_24 (by decide) (fun hc => ?_) (fun hc => ?_)
    · have hw := hw.1 hc
      refine lv_aload_n hx hb dJ19_indexOf_29 rfl (lv_at hl 2 rfl) ?_
      refine lv_iload_n hx hb dJ19_indexOf_30 rfl (lv_at hl 3 rfl) ?_
      refine lv_iload_n hx hb dJ19_indexOf_31 rfl (lv_at hl 1 rfl) ?_
      refine lv_iload_n hx hb dJ19_indexOf_32 rfl (lv_at hl 0 rfl) ?_
      refine cl_SI X Y [] [] rfl rfl rfl (eA_bl eT3_bl eN_bl) (fun U hU hW => ⟨((eT3_tr.at X hE.1 Y [] [] rfl rfl) U hU hW), ((eN_tr.at X hE.2 Y [] [] rfl rfl) U hU hW)⟩) (mtJ19_indexOfChar (Γ := Γ) (l := l) hw) (lw_S q538 q539 q158 q540) hdJ19_indexOfChar ⟨Nat.le_of_ble_eq_true rfl, Nat.le_of_ble_eq_true rfl⟩ rfl hl.1 rfl (Nat.le_of_ble_eq_true rfl) dJ19_indexOf_33 ⟨Nat.le_of_ble_eq_true rfl, Nat.le_of_ble_eq_true rfl⟩ (fun r2 u H locs hw Y => ?_)
      have Y : Wo Γ A s H locs [] := Y
      subst hQ
      exact re_i X Y hr hlk () rfl rfl hw (Nat.le_of_ble_eq_true rfl) (Nat.le_of_ble_eq_true rfl) dJ19_indexOf_36
    · have hw := hw.2 hc
      refine lv_iconst (v := (-1)) hx hb dJ19_indexOf_27 rfl ?_
      subst hQ
      exact re_i X Y hr hlk () rfl rfl hw (Nat.le_of_ble_eq_true rfl) (Nat.le_of_ble_eq_true rfl) dJ19_indexOf_28
  · have hw := hw.1 hc
    refine lv_iconst (v := (-1)) hx hb dJ19_indexOf_7 rfl ?_
    subst hQ
    exact re_i X Y hr hlk () rfl rfl hw (Nat.le_of_ble_eq_true rfl) (Nat.le_of_ble_eq_true rfl) dJ19_indexOf_8
def wpJ7_indexOf_2 (K : (Int32) → Prop)  (sa : Nat) (sv : Nat) (sn : Nat) (sf : Nat → Int32) (a1 : Int32) (a2 : Int32) : Prop := wpJ7_isLatin1 (fun r1 => ((r1 = 0 → (wpJ7_length (fun r2 => (False))  sa sv sn sf)) ∧ (¬ r1 = 0 → (wpJ7_length (fun r3 => (wpJ19_indexOf (fun r4 => (K r4))  sv sn sf a1 a2 r3))  sa sv sn sf))))  sa sv sn sf
abbrev rmJ7_indexOf_2 : Room := { frames := 2, cells := 0, slots := 0, locals := 48 }
theorem hdJ7_indexOf_2 : yJ7_indexOf_2.cls ≠ "java/lang/invoke/MethodHandle" ∧ yJ7_indexOf_2.cls ≠ "java/lang/invoke/VarHandle" ∧ (parseMethodDescriptor yJ7_indexOf_2.desc).map (fun d => d.parameters.length) = some 2 := by decide +kernel
theorem hpJ7_indexOf_2 : yJ7_indexOf_2.name ≠ "<init>" ∧ (parseMethodDescriptor yJ7_indexOf_2.desc).map (fun d => d.parameters.length) = some 2 := by decide +kernel
theorem huJ7_indexOf_2 : RJ7 ≠ "java/lang/invoke/MethodHandle" ∧ RJ7 ≠ "java/lang/invoke/VarHandle" ∧ (parseMethodDescriptor yJ7_indexOf_2.desc).map (fun d => d.parameters.length) = some 2 := by decide +kernel
set_option maxHeartbeats 4000000 in
theorem mtJ7_indexOf_2 {Γ : gT} {l : Launch} {sa : Nat} {sv : Nat} {sn : Nat} {sf : Nat → Int32} {a1 : Int32} {a2 : Int32} {K : (Int32) → Prop}  (hw : wpJ7_indexOf_2 K  sa sv sn sf a1 a2) : cI Γ l yJ7_indexOf_2 (ws_ yJ7_indexOf_2 cJ7_indexOf_2 3 (some .int)) rmJ7_indexOf_2 (eA (eR sa sv sn sf) (eN Γ)) [.ref sa, .int a1, .int a2] [] (fun u : Unit => []) (fun r u => K r ) := by
  refine cI_of (by decide +kernel) (Nat.le_of_ble_eq_true rfl) ?_
  intro p e s m args below meth c ls A Q hQ X hr hlk hnm hE Y hl
  have hx := X.1
  have hb := X.2.1
  have hl : lv_has ls 3 [(0, .ref sa), (1, .int a1), (2, .int a2)] := hl
  unfold wpJ7_indexOf_2 at hw
  obtain ⟨H, hH⟩ : ∃ H : Heap, H = s.heap := ⟨_, rfl⟩
  obtain ⟨locs, hlo⟩ : ∃ locs : List Loc, locs = [] := ⟨_, rfl⟩
  rw [← hH, ← hlo] at Y
  rw [← hH, ← hlo]
  refine lv_aload_n hx hb dJ7_indexOf_2_0 rfl (lv_at hl 0 rfl) ?_
  refine cv_VI X Y [] [] rfl rfl rfl (eA_bl eR_bl eN_bl) (fun U hU hW => ⟨((eR_tr.at X hE.1 Y [] [] rfl rfl) U hU hW), ((eN_tr.at X hE.2 Y [] [] rfl rfl) U hU hW)⟩) (mtJ7_isLatin1 (Γ := Γ) (l := l) hw) (lw_V q513 q514 q515 q141 q516) ⟨rfl, hdJ7_isLatin1⟩ ⟨Nat.le_of_ble_eq_true rfl, Nat.le_of_ble_eq_true rfl⟩ (ro_recv Y hE.1) rfl hl.1 rfl (Nat.le_of_ble_eq_true rfl) dJ7_indexOf_2_1 ⟨Nat.le_of_ble_eq_true rfl, Nat.le_of_ble_eq_true rfl⟩ (fun r1 u H locs hw Y => ?_)
  have Y : Wo Γ A s H locs [] := Y
  refine lv_if_eq (tgt := 23) hx hb dJ7_indexOf_2_4 (by decide) (fun hc => ?_) (fun hc => ?_)
  · have hw := hw.1 hc
    refine lv_aload_n hx hb dJ7_indexOf_2_23 rfl (lv_at hl 0 rfl) ?_
    refine vk_getf hx hb hE.1.2.2.1 Y.2.2 X.2.2.2.1 (X.2.2.2.2.1 _ q879) (fun _ h => h) dJ7_indexOf_2_24 ?_
    refine lv_iload_n hx hb dJ7_indexOf_2_27 rfl (lv_at hl 1 rfl) ?_
    refine lv_iload_n hx hb dJ7_indexOf_2_28 rfl (lv_at hl 2 rfl) ?_
    refine lv_aload_n hx hb dJ7_indexOf_2_29 rfl (lv_at hl 0 rfl) ?_
    refine cv_VI X Y [] [] rfl rfl rfl (eA_bl eR_bl eN_bl) (fun U hU hW => ⟨((eR_tr.at X hE.1 Y [] [] rfl rfl) U hU hW), ((eN_tr.at X hE.2 Y [] [] rfl rfl) U hU hW)⟩) (mtJ7_length (Γ := Γ) (l := l) hw) (lw_V q518 q519 q520 q141 q521) ⟨rfl, hdJ7_length⟩ ⟨Nat.le_of_ble_eq_true rfl, Nat.le_of_ble_eq_true rfl⟩ (ro_recv Y hE.1) rfl hl.1 rfl (Nat.le_of_ble_eq_true rfl) dJ7_indexOf_2_30 ⟨Nat.le_of_ble_eq_true rfl, Nat.le_of_ble_eq_true rfl⟩ (fun r2 u H locs hw Y => ?_)
    have Y : Wo Γ A s H locs [] := Y
    exact hw.elim
  · have hw := hw.2 hc
    refine lv_aload_n hx hb dJ7_indexOf_2_7 rfl (lv_at hl 0 rfl) ?_
    refine vk_getf hx hb hE.1.2.2.1 Y.2.2 X.2.2.2.1 (X.2.2.2.2.1 _ q879) (fun _ h => h) dJ7_indexOf_2_8 ?_
    refine lv_iload_n hx hb dJ7_indexOf_2_11 rfl (lv_at hl 1 rfl) ?_
    refine lv_iload_n hx hb dJ7_indexOf_2_12 rfl (lv_at hl 2 rfl) ?_
    refine lv_aload_n hx hb dJ7_indexOf_2_13 rfl (lv_at hl 0 rfl) ?_
    refine cv_VI X Y [] [] rfl rfl rfl (eA_bl eR_bl eN_bl) (fun U hU hW => ⟨((eR_tr.at X hE.1 Y [] [] rfl rfl) U hU hW), ((eN_tr.at X hE.2 Y [] [] rfl rfl) U hU hW)⟩) (mtJ7_length (Γ := Γ) (l := l) hw) (lw_V q518 q519 q520 q141 q521) ⟨rfl, hdJ7_length⟩ ⟨Nat.le_of_ble_eq_true rfl, Nat.le_of_ble_eq_true rfl⟩ (ro_recv Y hE.1) rfl hl.1 rfl (Nat.le_of_ble_eq_true rfl) dJ7_indexOf_2_14 ⟨Nat.le_of_ble_eq_true rfl, Nat.le_of_ble_eq_true rfl⟩ (fun r3 u H locs hw Y => ?_)
    have Y : Wo Γ A s H locs [] := Y
    refine cl_SI X Y [] [] rfl rfl rfl (eA_bl eT3_bl eN_bl) (fun U hU hW => ⟨((eT3_tr.at X (eR_arr hE.1) Y [] [] rfl rfl) U hU hW), ((eN_tr.at X hE.2 Y [] [] rfl rfl) U hU hW)⟩) (mtJ19_indexOf (Γ := Γ) (l := l) hw) (lw_S q526 q527 q158 q528) hdJ19_indexOf ⟨Nat.le_of_ble_eq_true rfl, Nat.le_of_ble_eq_true rfl⟩ rfl hl.1 rfl (Nat.le_of_ble_eq_true rfl) dJ7_indexOf_2_17 ⟨Nat.le_of_ble_eq_true rfl, Nat.le_of_ble_eq_true rfl⟩ (fun r4 u H locs hw Y => ?_)
    have Y : Wo Γ A s H locs [] := Y
    refine lv_goto (tgt := 36) hx hb dJ7_indexOf_2_20 (by decide) ?_
    subst hQ
    exact re_i X Y hr hlk () rfl rfl hw (Nat.le_of_ble_eq_true rfl) (Nat.le_of_ble_eq_true rfl) dJ7_indexOf_2_36
def wpJ7_indexOf (K : (Int32) → Prop)  (sa : Nat) (sv : Nat) (sn : Nat) (sf : Nat → Int32) (a1 : Int32) : Prop := wpJ7_indexOf_2 (fun r1 => (K r1))  sa sv sn sf a1 0
abbrev rmJ7_indexOf : Room := { frames := 3, cells := 0, slots := 0, locals := 70 }
theorem hdJ7_indexOf : yJ7_indexOf.cls ≠ "java/lang/invoke/MethodHandle" ∧ yJ7_indexOf.cls ≠ "java/lang/invoke/VarHandle" ∧ (parseMethodDescriptor yJ7_indexOf.desc).map (fun d => d.parameters.length) = some 1 := by decide +kernel
theorem hpJ7_indexOf : yJ7_indexOf.name ≠ "<init>" ∧ (parseMethodDescriptor yJ7_indexOf.desc).map (fun d => d.parameters.length) = some 1 := by decide +kernel
theorem huJ7_indexOf : RJ7 ≠ "java/lang/invoke/MethodHandle" ∧ RJ7 ≠ "java/lang/invoke/VarHandle" ∧ (parseMethodDescriptor yJ7_indexOf.desc).map (fun d => d.parameters.length) = some 1 := by decide +kernel
set_option maxHeartbeats 4000000 in
theorem mtJ7_indexOf {Γ : gT} {l : Launch} {sa : Nat} {sv : Nat} {sn : Nat} {sf : Nat → Int32} {a1 : Int32} {K : (Int32) → Prop}  (hw : wpJ7_indexOf K  sa sv sn sf a1) : cI Γ l yJ7_indexOf (ws_ yJ7_indexOf cJ7_indexOf 2 (some .int)) rmJ7_indexOf (eA (eR sa sv sn sf) (eN Γ)) [.ref sa, .int a1] [] (fun u : Unit => []) (fun r u => K r ) := by
  refine cI_of (by decide +kernel) (Nat.le_of_ble_eq_true rfl) ?_
  intro p e s m args below meth c ls A Q hQ X hr hlk hnm hE Y hl
  have hx := X.1
  have hb := X.2.1
  have hl : lv_has ls 2 [(0, .ref sa), (1, .int a1)] := hl
  unfold wpJ7_indexOf at hw
  obtain ⟨H, hH⟩ : ∃ H : Heap, H = s.heap := ⟨_, rfl⟩
  obtain ⟨locs, hlo⟩ : ∃ locs : List Loc, locs = [] := ⟨_, rfl⟩
  rw [← hH, ← hlo] at Y
  rw [← hH, ← hlo]
  refine lv_aload_n hx hb dJ7_indexOf_0 rfl (lv_at hl 0 rfl) ?_
  refine lv_iload_n hx hb dJ7_indexOf_1 rfl (lv_at hl 1 rfl) ?_
  refine lv_iconst (v := 0) hx hb dJ7_indexOf_2 rfl ?_
  refine cv_VI X Y [] [] rfl rfl rfl (eA_bl eR_bl eN_bl) (fun U hU hW => ⟨((eR_tr.at X hE.1 Y [] [] rfl rfl) U hU hW), ((eN_tr.at X hE.2 Y [] [] rfl rfl) U hU hW)⟩) (mtJ7_indexOf_2 (Γ := Γ) (l := l) hw) (lw_V q509 q510 q511 q141 q512) ⟨rfl, hdJ7_indexOf_2⟩ ⟨Nat.le_of_ble_eq_true rfl, Nat.le_of_ble_eq_true rfl⟩ (ro_recv Y hE.1) rfl hl.1 rfl (Nat.le_of_ble_eq_true rfl) dJ7_indexOf_3 ⟨Nat.le_of_ble_eq_true rfl, Nat.le_of_ble_eq_true rfl⟩ (fun r1 u H locs hw Y => ?_)
  have Y : Wo Γ A s H locs [] := Y
  subst hQ
  exact re_i X Y hr hlk () rfl rfl hw (Nat.le_of_ble_eq_true rfl) (Nat.le_of_ble_eq_true rfl) dJ7_indexOf_6
def wpJ7_charAt (K : (Int32) → Prop)  (sa : Nat) (sv : Nat) (sn : Nat) (sf : Nat → Int32) (a1 : Int32) : Prop := wpJ7_isLatin1 (fun r1 => ((r1 = 0 → (False)) ∧ (¬ r1 = 0 → (wpJ19_charAt (fun r2 => (narrow .char (.int r2) = .int r2 ∧ K r2))  sv sn sf a1))))  sa sv sn sf
abbrev rmJ7_charAt : Room := { frames := 3, cells := 0, slots := 0, locals := 64 }
theorem hdJ7_charAt : yJ7_charAt.cls ≠ "java/lang/invoke/MethodHandle" ∧ yJ7_charAt.cls ≠ "java/lang/invoke/VarHandle" ∧ (parseMethodDescriptor yJ7_charAt.desc).map (fun d => d.parameters.length) = some 1 := by decide +kernel
theorem hpJ7_charAt : yJ7_charAt.name ≠ "<init>" ∧ (parseMethodDescriptor yJ7_charAt.desc).map (fun d => d.parameters.length) = some 1 := by decide +kernel
theorem huJ7_charAt : RJ7 ≠ "java/lang/invoke/MethodHandle" ∧ RJ7 ≠ "java/lang/invoke/VarHandle" ∧ (parseMethodDescriptor yJ7_charAt.desc).map (fun d => d.parameters.length) = some 1 := by decide +kernel
set_option maxHeartbeats 4000000 in
theorem mtJ7_charAt {Γ : gT} {l : Launch} {sa : Nat} {sv : Nat} {sn : Nat} {sf : Nat → Int32} {a1 : Int32} {K : (Int32) → Prop}  (hw : wpJ7_charAt K  sa sv sn sf a1) : cI Γ l yJ7_charAt (ws_ yJ7_charAt cJ7_charAt 2 (some .char)) rmJ7_charAt (eA (eR sa sv sn sf) (eN Γ)) [.ref sa, .int a1] [] (fun u : Unit => []) (fun r u => K r ) := by
  refine cI_of (by decide +kernel) (Nat.le_of_ble_eq_true rfl) ?_
  intro p e s m args below meth c ls A Q hQ X hr hlk hnm hE Y hl
  have hx := X.1
  have hb := X.2.1
  have hl : lv_has ls 2 [(0, .ref sa), (1, .int a1)] := hl
  unfold wpJ7_charAt at hw
  obtain ⟨H, hH⟩ : ∃ H : Heap, H = s.heap := ⟨_, rfl⟩
  obtain ⟨locs, hlo⟩ : ∃ locs : List Loc, locs = [] := ⟨_, rfl⟩
  rw [← hH, ← hlo] at Y
  rw [← hH, ← hlo]
  refine lv_aload_n hx hb dJ7_charAt_0 rfl (lv_at hl 0 rfl) ?_
  refine cv_VI X Y [] [] rfl rfl rfl (eA_bl eR_bl eN_bl) (fun U hU hW => ⟨((eR_tr.at X hE.1 Y [] [] rfl rfl) U hU hW), ((eN_tr.at X hE.2 Y [] [] rfl rfl) U hU hW)⟩) (mtJ7_isLatin1 (Γ := Γ) (l := l) hw) (lw_V q513 q514 q515 q141 q516) ⟨rfl, hdJ7_isLatin1⟩ ⟨Nat.le_of_ble_eq_true rfl, Nat.le_of_ble_eq_true rfl⟩ (ro_recv Y hE.1) rfl hl.1 rfl (Nat.le_of_ble_eq_true rfl) dJ7_charAt_1 ⟨Nat.le_of_ble_eq_true rfl, Nat.le_of_ble_eq_true rfl⟩ (fun r1 u H locs hw Y => ?_)
  have Y : Wo Γ A s H locs [] := Y
  refine lv_if_eq (tgt := 16) hx hb dJ7_charAt_4 (by decide) (fun hc => ?_) (fun hc => ?_)
  · have hw := hw.1 hc
    refine lv_aload_n hx hb dJ7_charAt_16 rfl (lv_at hl 0 rfl) ?_
    refine vk_getf hx hb hE.1.2.2.1 Y.2.2 X.2.2.2.1 (X.2.2.2.2.1 _ q879) (fun _ h => h) dJ7_charAt_17 ?_
    refine lv_iload_n hx hb dJ7_charAt_20 rfl (lv_at hl 1 rfl) ?_
    exact hw.elim
  · have hw := hw.2 hc
    refine lv_aload_n hx hb dJ7_charAt_7 rfl (lv_at hl 0 rfl) ?_
    refine vk_getf hx hb hE.1.2.2.1 Y.2.2 X.2.2.2.1 (X.2.2.2.2.1 _ q879) (fun _ h => h) dJ7_charAt_8 ?_
    refine lv_iload_n hx hb dJ7_charAt_11 rfl (lv_at hl 1 rfl) ?_
    refine cl_SI X Y [] [] rfl rfl rfl (eA_bl eT3_bl eN_bl) (fun U hU hW => ⟨((eT3_tr.at X (eR_arr hE.1) Y [] [] rfl rfl) U hU hW), ((eN_tr.at X hE.2 Y [] [] rfl rfl) U hU hW)⟩) (mtJ19_charAt (Γ := Γ) (l := l) hw) (lw_S q1450 q1451 q158 q1452) hdJ19_charAt ⟨Nat.le_of_ble_eq_true rfl, Nat.le_of_ble_eq_true rfl⟩ rfl hl.1 rfl (Nat.le_of_ble_eq_true rfl) dJ7_charAt_12 ⟨Nat.le_of_ble_eq_true rfl, Nat.le_of_ble_eq_true rfl⟩ (fun r2 u H locs hw Y => ?_)
    have Y : Wo Γ A s H locs [] := Y
    subst hQ
    exact re_i X Y hr hlk () rfl hw.1 hw.2 (Nat.le_of_ble_eq_true rfl) (Nat.le_of_ble_eq_true rfl) dJ7_charAt_15
def wpJ19_indexOf_3 (K : (Int32) → Prop)  (sv : Nat) (sn : Nat) (sf : Nat → Int32) (tv : Nat) (tn : Nat) (tf : Nat → Int32) (a1 : Int32) (a2 : Int32) (a3 : Int32) : Prop := vp_in 0 tn ∧ (∃ I1 : Nat → (Int32) → (Int32) → (Int32) → (Int32) → Prop, (∃ n, I1 n a2 (tf (0 : Int32).toNatClampNeg) (a1 - a2) a3) ∧ ∀ (n2 : Nat) (x3 : Int32) (x4 : Int32) (x5 : Int32) (x6 : Int32), I1 n2 x3 x4 x5 x6 → ((x5 < x6 → (K (-1))) ∧ (¬ x5 < x6 → (vp_in x6 sn ∧ (∃ J7 : (Int32) → Prop, (∀ (x8 : Int32), J7 x8 → (∃ J9 : (Int32) → (Int32) → (Int32) → (Int32) → Prop, (∀ (x10 : Int32) (x11 : Int32) (x12 : Int32) (x13 : Int32), J9 x10 x11 x12 x13 → (∃ n14, n14 < n2 ∧ I1 n14 x10 x11 x12 (x13 + 1))) ∧ ((x5 < x8 → (J9 x3 x4 x5 x8)) ∧ (¬ x5 < x8 → (∃ I15 : Nat → (Int32) → (Int32) → Prop, (∃ n, I15 n (x8 + 1) 1) ∧ ∀ (n16 : Nat) (x17 : Int32) (x18 : Int32), I15 n16 x17 x18 → (∃ J19 : Prop, (J19 → ((x17 = (((x8 + 1) + x3) - 1) → (K x8)) ∧ (¬ x17 = (((x8 + 1) + x3) - 1) → (J9 x3 x4 x5 x8)))) ∧ (((((x8 + 1) + x3) - 1) ≤ x17 → (J19)) ∧ (¬ (((x8 + 1) + x3) - 1) ≤ x17 → (vp_in x17 sn ∧ (vp_in x18 tn ∧ (((sf x17.toNatClampNeg) = (tf x18.toNatClampNeg) → (∃ n20, n20 < n16 ∧ I15 n20 (x17 + 1) (x18 + 1))) ∧ (¬ (sf x17.toNatClampNeg) = (tf x18.toNatClampNeg) → (J19))))))))))))) ∧ (((sf x6.toNatClampNeg) = x4 → (J7 x6)) ∧ (¬ (sf x6.toNatClampNeg) = x4 → (∃ I21 : Nat → (Int32) → Prop, (∃ n, I21 n x6) ∧ ∀ (n22 : Nat) (x23 : Int32), I21 n22 x23 → ((x5 < (x23 + 1) → (J7 (x23 + 1))) ∧ (¬ x5 < (x23 + 1) → (vp_in (x23 + 1) sn ∧ (((sf (x23 + 1).toNatClampNeg) = x4 → (J7 (x23 + 1))) ∧ (¬ (sf (x23 + 1).toNatClampNeg) = x4 → (∃ n24, n24 < n22 ∧ I21 n24 (x23 + 1)))))))))))))))
abbrev rmJ19_indexOf_3 : Room := { frames := 0, cells := 0, slots := 0, locals := 0 }
theorem hdJ19_indexOf_3 : yJ19_indexOf_3.cls ≠ "java/lang/invoke/MethodHandle" ∧ yJ19_indexOf_3.cls ≠ "java/lang/invoke/VarHandle" ∧ (parseMethodDescriptor yJ19_indexOf_3.desc).map (fun d => d.parameters.length) = some 5 := by decide +kernel
set_option maxHeartbeats 4000000 in
theorem mtJ19_indexOf_3 {Γ : gT} {l : Launch} {sv : Nat} {sn : Nat} {sf : Nat → Int32} {tv : Nat} {tn : Nat} {tf : Nat → Int32} {a1 : Int32} {a2 : Int32} {a3 : Int32} {K : (Int32) → Prop}  (hw : wpJ19_indexOf_3 K  sv sn sf tv tn tf a1 a2 a3) : cI Γ l yJ19_indexOf_3 (ws_ yJ19_indexOf_3 cJ19_indexOf_3 11 (some .int)) rmJ19_indexOf_3 (eA (eT3 sv sn sf) (eA (eT3 tv tn tf) (eN Γ))) [.ref sv, .int a1, .ref tv, .int a2, .int a3] [] (fun u : Unit => []) (fun r u => K r ) := by
  refine cI_of (by decide +kernel) (Nat.le_of_ble_eq_true rfl) ?_
  intro p e s m args below meth c ls A Q hQ X hr hlk hnm hE Y hl
  have hx := X.1
  have hb := X.2.1
  have hl : lv_has ls 11 [(0, .ref sv), (1, .int a1), (2, .ref tv), (3, .int a2), (4, .int a3)] := hl
  unfold wpJ19_indexOf_3 at hw
  obtain ⟨H, hH⟩ : ∃ H : Heap, H = s.heap := ⟨_, rfl⟩
  obtain ⟨locs, hlo⟩ : ∃ locs : List Loc, locs = [] := ⟨_, rfl⟩
  rw [← hH, ← hlo] at Y
  rw [← hH, ← hlo]
  refine lv_aload_n hx hb dJ19_indexOf_3_0 rfl (lv_at hl 2 rfl) ?_
  refine lv_iconst (v := 0) hx hb dJ19_indexOf_3_1 rfl ?_
  refine ro_ald X Y hE.2.1 hw.1 dJ19_indexOf_3_2 ?_
  have hw := hw.2
  refine lv_istore (lv' := [(5, .int (tf (0 : Int32).toNatClampNeg)), (0, .ref sv), (1, .int a1), (2, .ref tv), (3, .int a2), (4, .int a3)]) hx hb dJ19_indexOf_3_3 hl (by decide) rfl (fun ls hl => ?_)
  refine lv_iload_n hx hb dJ19_indexOf_3_5 rfl (lv_at hl 2 rfl) ?_
  refine lv_iload_n hx hb dJ19_indexOf_3_6 rfl (lv_at hl 4 rfl) ?_
  refine lv_isub hx hb dJ19_indexOf_3_7 ?_
  refine lv_istore (lv' := [(6, .int (a1 - a2)), (5, .int (tf (0 : Int32).toNatClampNeg)), (0, .ref sv), (1, .int a1), (2, .ref tv), (3, .int a2), (4, .int a3)]) hx hb dJ19_indexOf_3_8 hl (by decide) rfl (fun ls hl => ?_)
  refine lv_iload hx hb dJ19_indexOf_3_10 (lv_at hl 6 rfl) ?_
  refine lv_istore (lv' := [(7, .int a3), (6, .int (a1 - a2)), (5, .int (tf (0 : Int32).toNatClampNeg)), (0, .ref sv), (1, .int a1), (2, .ref tv), (3, .int a2), (4, .int a3)]) hx hb dJ19_indexOf_3_12 hl (by decide) rfl (fun ls hl => ?_)
  obtain ⟨I1, hw0, hwI⟩ := hw
  have hI1 : ∀ (n2 : Nat) (x3 : Int32) (x4 : Int32) (x5 : Int32) (x6 : Int32) (H : Heap) (locs : List Loc) (ls : Array Slot), I1 n2 x3 x4 x5 x6 → Wo Γ A s H locs [] → lv_has ls 11 [(0, .ref sv), (2, .ref tv), (3, .int x3), (5, .int x4), (6, .int x5), (7, .int x6)] → W p l e rmJ19_indexOf_3 s m args below meth c H locs 0 0 Q (F0 m 14 ls []) := by
    intro n2
    induction n2 using Nat.strongRecOn with
    | ind n2 ihn2 =>
      intro x3 x4 x5 x6 H locs ls hw Y hl
      have hw := hwI n2 x3 x4 x5 x6 hw
      refine lv_iload hx hb dJ19_indexOf_3_14 (lv_at hl 5 rfl) ?_
      refine lv_iload hx hb dJ19_indexOf_3_16 (lv_at hl 4 rfl) ?_
      refine lv_icmp_gt (tgt := 119) hx hb dJ19_indexOf_3_18 (by decide) (fun hc => ?_) (fun hc => ?_)
      · have hw := hw.1 hc
        refine lv_iconst (v := (-1)) hx hb dJ19_indexOf_3_119 rfl ?_
        subst hQ
        exact re_i X Y hr hlk () rfl rfl hw (Nat.le_of_ble_eq_true rfl) (Nat.le_of_ble_eq_true rfl) dJ19_indexOf_3_120
      · have hw := hw.2 hc
        refine lv_aload_n hx hb dJ19_indexOf_3_21 rfl (lv_at hl 0 rfl) ?_
        refine lv_iload hx hb dJ19_indexOf_3_22 (lv_at hl 5 rfl) ?_
        refine ro_ald X Y hE.1 hw.1 dJ19_indexOf_3_24 ?_
        have hw := hw.2
        refine lv_iload hx hb dJ19_indexOf_3_25 (lv_at hl 3 rfl) ?_
        obtain ⟨J7, hwR, hw⟩ := hw
        have hJ7 : ∀ (x8 : Int32) (H : Heap) (locs : List Loc) (ls : Array Slot), J7 x8 → Wo Γ A s H locs [] → lv_has ls 11 [(0, .ref sv), (2, .ref tv), (3, .int x3), (5, .int x4), (6, .int x5), (7, .int x8)] → W p l e rmJ19_indexOf_3 s m args below meth c H locs 0 0 Q (F0 m 52 ls []) := by
          intro x8 H locs ls hw Y hl
          have hw := hwR x8 hw
          refine lv_iload hx hb dJ19_indexOf_3_52 (lv_at hl 5 rfl) ?_
          refine lv_iload hx hb dJ19_indexOf_3_54 (lv_at hl 4 rfl) ?_
          obtain ⟨J9, hwR, hw⟩ := hw
          have hJ9 : ∀ (x10 : Int32) (x11 : Int32) (x12 : Int32) (x13 : Int32) (H : Heap) (locs : List Loc) (ls : Array Slot), J9 x10 x11 x12 x13 → Wo Γ A s H locs [] → lv_has ls 11 [(0, .ref sv), (2, .ref tv), (3, .int x10), (5, .int x11), (6, .int x12), (7, .int x13)] → W p l e rmJ19_indexOf_3 s m args below meth c H locs 0 0 Q (F0 m 113 ls []) := by
            intro x10 x11 x12 x13 H locs ls hw Y hl
            have hw := hwR x10 x11 x12 x13 hw
            refine lv_iinc (v := x13 + 1) (lv' := [(7, .int (x13 + 1)), (0, .ref sv), (2, .ref tv), (3, .int x10), (5, .int x11), (6, .int x12)]) hx hb dJ19_indexOf_3_113 hl (k := 5) rfl rfl (by decide) rfl (fun ls hl => ?_)
            refine lv_goto (tgt := 14) hx hb dJ19_indexOf_3_116 (by decide) ?_
            obtain ⟨n14, hlt, hw⟩ := hw
            exact ihn2 n14 hlt x10 x11 x12 (x13 + 1) H locs ls hw Y (lv_sub hl [1, 2, 3, 4, 5, 0] rfl)
          refine lv_icmp_gt (tgt := 113) hx hb dJ19_indexOf_3_56 (by decide) (fun hc => ?_) (fun hc => ?_)
          · have hw := hw.1 hc
            exact hJ9 x3 x4 x5 x8 H locs ls hw Y (lv_sub hl [0, 1, 2, 3, 4, 5] rfl)
          · have hw := hw.2 hc
            refine lv_iload hx hb dJ19_indexOf_3_59 (lv_at hl 5 rfl) ?_
            refine lv_iconst (v := 1) hx hb dJ19_indexOf_3_61 rfl ?_
            refine lv_iadd hx hb dJ19_indexOf_3_62 ?_
            refine lv_istore (lv' := [(8, .int (x8 + 1)), (0, .ref sv), (2, .ref tv), (3, .int x3), (5, .int x4), (6, .int x5), (7, .int x8)]) hx hb dJ19_indexOf_3_63 hl (by decide) rfl (fun ls hl => ?_)
            refine lv_iload hx hb dJ19_indexOf_3_65 (lv_at hl 0 rfl) ?_
            refine lv_iload_n hx hb dJ19_indexOf_3_67 rfl (lv_at hl 3 rfl) ?_
            refine lv_iadd hx hb dJ19_indexOf_3_68 ?_
            refine lv_iconst (v := 1) hx hb dJ19_indexOf_3_69 rfl ?_
            refine lv_isub hx hb dJ19_indexOf_3_70 ?_
            refine lv_istore (lv' := [(9, .int (((x8 + 1) + x3) - 1)), (8, .int (x8 + 1)), (0, .ref sv), (2, .ref tv), (3, .int x3), (5, .int x4), (6, .int x5), (7, .int x8)]) hx hb dJ19_indexOf_3_71 hl (by decide) rfl (fun ls hl => ?_)
            refine lv_iconst (v := 1) hx hb dJ19_indexOf_3_73 rfl ?_
            refine lv_istore (lv' := [(10, .int 1), (9, .int (((x8 + 1) + x3) - 1)), (8, .int (x8 + 1)), (0, .ref sv), (2, .ref tv), (3, .int x3), (5, .int x4), (6, .int x5), (7, .int x8)]) hx hb dJ19_indexOf_3_74 hl (by decide) rfl (fun ls hl => ?_)
            obtain ⟨I15, hw0, hwI⟩ := hw
            have hI15 : ∀ (n16 : Nat) (x17 : Int32) (x18 : Int32) (H : Heap) (locs : List Loc) (ls : Array Slot), I15 n16 x17 x18 → Wo Γ A s H locs [] → lv_has ls 11 [(0, .ref sv), (2, .ref tv), (3, .int x3), (5, .int x4), (6, .int x5), (7, .int x8), (8, .int x17), (9, .int (((x8 + 1) + x3) - 1)), (10, .int x18)] → W p l e rmJ19_indexOf_3 s m args below meth c H locs 0 0 Q (F0 m 76 ls []) := by
              intro n16
              induction n16 using Nat.strongRecOn with
              | ind n16 ihn16 =>
                intro x17 x18 H locs ls hw Y hl
                have hw := hwI n16 x17 x18 hw
                refine lv_iload hx hb dJ19_indexOf_3_76 (lv_at hl 6 rfl) ?_
                refine lv_iload hx hb dJ19_indexOf_3_78 (lv_at hl 7 rfl) ?_
                obtain ⟨J19, hwR, hw⟩ := hw
                have hJ19 : ∀ (H : Heap) (locs : List Loc) (ls : Array Slot), J19  → Wo Γ A s H locs [] → lv_has ls 11 [(0, .ref sv), (2, .ref tv), (3, .int x3), (5, .int x4), (6, .int x5), (7, .int x8), (8, .int x17), (9, .int (((x8 + 1) + x3) - 1))] → W p l e rmJ19_indexOf_3 s m args below meth c H locs 0 0 Q (F0 m 103 ls []) := by
                  intro  H locs ls hw Y hl
                  have hw := hwR  hw
                  refine lv_iload hx hb dJ19_indexOf_3_103 (lv_at hl 6 rfl) ?_
                  refine lv_iload hx hb dJ19_indexOf_3_105 (lv_at hl 7 rfl) ?_
                  refine lv_icmp_ne (tgt := 113) hx hb dJ19_indexOf_3_107 (by decide) (fun hc => ?_) (fun hc => ?_)
                  · have hw := hw.2 hc
                    exact hJ9 x3 x4 x5 x8 H locs ls hw Y (lv_sub hl [0, 1, 2, 3, 4, 5] rfl)
                  · have hw := hw.1 hc
                    refine lv_iload hx hb dJ19_indexOf_3_110 (lv_at hl 5 rfl) ?_
                    subst hQ
                    exact re_i X Y hr hlk () rfl rfl hw (Nat.le_of_ble_eq_true rfl) (Nat.le_of_ble_eq_true rfl) dJ19_indexOf_3_112
                refine lv_icmp_ge (tgt := 103) hx hb dJ19_indexOf_3_80 (by decide) (fun hc => ?_) (fun hc => ?_)
                · have hw := hw.1 hc
                  exact hJ19  H locs ls hw Y (lv_sub hl [0, 1, 2, 3, 4, 5, 6, 7] rfl)
                · have hw := hw.2 hc
                  refine lv_aload_n hx hb dJ19_indexOf_3_83 rfl (lv_at hl 0 rfl) ?_
                  refine lv_iload hx hb dJ19_indexOf_3_84 (lv_at hl 6 rfl) ?_
                  refine ro_ald X Y hE.1 hw.1 dJ19_indexOf_3_86 ?_
                  have hw := hw.2
                  refine lv_aload_n hx hb dJ19_indexOf_3_87 rfl (lv_at hl 1 rfl) ?_
                  refine lv_iload hx hb dJ19_indexOf_3_88 (lv_at hl 8 rfl) ?_
                  refine ro_ald X Y hE.2.1 hw.1 dJ19_indexOf_3_90 ?_
                  have hw := hw.2
                  refine lv_icmp_ne (tgt := 103) hx hb dJ19_indexOf_3_91 (by decide) (fun hc => ?_) (fun hc => ?_)
                  · have hw := hw.2 hc
                    exact hJ19  H locs ls hw Y (lv_sub hl [0, 1, 2, 3, 4, 5, 6, 7] rfl)
                  · have hw := hw.1 hc
                    refine lv_iinc (v := x17 + 1) (lv' := [(8, .int (x17 + 1)), (0, .ref sv), (2, .ref tv), (3, .int x3), (5, .int x4), (6, .int x5), (7, .int x8), (9, .int (((x8 + 1) + x3) - 1)), (10, .int x18)]) hx hb dJ19_indexOf_3_94 hl (k := 6) rfl rfl (by decide) rfl (fun ls hl => ?_)
                    refine lv_iinc (v := x18 + 1) (lv' := [(10, .int (x18 + 1)), (8, .int (x17 + 1)), (0, .ref sv), (2, .ref tv), (3, .int x3), (5, .int x4), (6, .int x5), (7, .int x8), (9, .int (((x8 + 1) + x3) - 1))]) hx hb dJ19_indexOf_3_97 hl (k := 8) rfl rfl (by decide) rfl (fun ls hl => ?_)
                    refine lv_goto (tgt := 76) hx hb dJ19_indexOf_3_100 (by decide) ?_
                    obtain ⟨n20, hlt, hw⟩ := hw
                    exact ihn16 n20 hlt (x17 + 1) (x18 + 1) H locs ls hw Y (lv_sub hl [2, 3, 4, 5, 6, 7, 1, 8, 0] rfl)
            obtain ⟨n0, hw0⟩ := hw0
            exact hI15 n0 (x8 + 1) 1 H locs ls hw0 Y (lv_sub hl [3, 4, 5, 6, 7, 8, 2, 1, 0] rfl)
        refine lv_icmp_eq (tgt := 52) hx hb dJ19_indexOf_3_27 (by decide) (fun hc => ?_) (fun hc => ?_)
        · have hw := hw.1 hc
          exact hJ7 x6 H locs ls hw Y (lv_sub hl [0, 1, 2, 3, 4, 5] rfl)
        · have hw := hw.2 hc
          obtain ⟨I21, hw0, hwI⟩ := hw
          have hI21 : ∀ (n22 : Nat) (x23 : Int32) (H : Heap) (locs : List Loc) (ls : Array Slot), I21 n22 x23 → Wo Γ A s H locs [] → lv_has ls 11 [(0, .ref sv), (2, .ref tv), (3, .int x3), (5, .int x4), (6, .int x5), (7, .int x23)] → W p l e rmJ19_indexOf_3 s m args below meth c H locs 0 0 Q (F0 m 30 ls []) := by
            intro n22
            induction n22 using Nat.strongRecOn with
            | ind n22 ihn22 =>
              intro x23 H locs ls hw Y hl
              have hw := hwI n22 x23 hw
              refine lv_iinc (v := x23 + 1) (lv' := [(7, .int (x23 + 1)), (0, .ref sv), (2, .ref tv), (3, .int x3), (5, .int x4), (6, .int x5)]) hx hb dJ19_indexOf_3_30 hl (k := 5) rfl rfl (by decide) rfl (fun ls hl => ?_)
              refine lv_iload hx hb dJ19_indexOf_3_33 (lv_at hl 0 rfl) ?_
              refine lv_iload hx hb dJ19_indexOf_3_35 (lv_at hl 5 rfl) ?_
              refine lv_icmp_gt (tgt := 52) hx hb dJ19_indexOf_3_37 (by decide) (fun hc => ?_) (fun hc => ?_)
              · have hw := hw.1 hc
                exact hJ7 (x23 + 1) H locs ls hw Y (lv_sub hl [1, 2, 3, 4, 5, 0] rfl)
              · have hw := hw.2 hc
                refine lv_aload_n hx hb dJ19_indexOf_3_40 rfl (lv_at hl 1 rfl) ?_
                refine lv_iload hx hb dJ19_indexOf_3_41 (lv_at hl 0 rfl) ?_
                refine ro_ald X Y hE.1 hw.1 dJ19_indexOf_3_43 ?_
                have hw := hw.2
                refine lv_iload hx hb dJ19_indexOf_3_44 (lv_at hl 4 rfl) ?_
                refine lv_icmp_eq (tgt := 52) hx hb dJ19_indexOf_3_46 (by decide) (fun hc => ?_) (fun hc => ?_)
                · have hw := hw.1 hc
                  exact hJ7 (x23 + 1) H locs ls hw Y (lv_sub hl [1, 2, 3, 4, 5, 0] rfl)
                · have hw := hw.2 hc
                  refine lv_goto (tgt := 30) hx hb dJ19_indexOf_3_49 (by decide) ?_
                  obtain ⟨n24, hlt, hw⟩ := hw
                  exact ihn22 n24 hlt (x23 + 1) H locs ls hw Y (lv_sub hl [1, 2, 3, 4, 5, 0] rfl)
          obtain ⟨n0, hw0⟩ := hw0
          exact hI21 n0 x6 H locs ls hw0 Y (lv_sub hl [0, 1, 2, 3, 4, 5] rfl)
  obtain ⟨n0, hw0⟩ := hw0
  exact hI1 n0 a2 (tf (0 : Int32).toNatClampNeg) (a1 - a2) a3 H locs ls hw0 Y (lv_sub hl [3, 5, 6, 2, 1, 0] rfl)
def wpJ19_indexOf_2 (K : (Int32) → Prop)  (sv : Nat) (sn : Nat) (sf : Nat → Int32) (tv : Nat) (tn : Nat) (tf : Nat → Int32) : Prop := ((nI tn) = 0 → (K 0)) ∧ (¬ (nI tn) = 0 → (((nI sn) = 0 → (K (-1))) ∧ (¬ (nI sn) = 0 → (wpJ19_indexOf_3 (fun r1 => (K r1))  sv sn sf tv tn tf (nI sn) (nI tn) 0))))
abbrev rmJ19_indexOf_2 : Room := { frames := 1, cells := 0, slots := 0, locals := 30 }
theorem hdJ19_indexOf_2 : yJ19_indexOf_2.cls ≠ "java/lang/invoke/MethodHandle" ∧ yJ19_indexOf_2.cls ≠ "java/lang/invoke/VarHandle" ∧ (parseMethodDescriptor yJ19_indexOf_2.desc).map (fun d => d.parameters.length) = some 2 := by decide +kernel
set_option maxHeartbeats 4000000 in
theorem mtJ19_indexOf_2 {Γ : gT} {l : Launch} {sv : Nat} {sn : Nat} {sf : Nat → Int32} {tv : Nat} {tn : Nat} {tf : Nat → Int32} {K : (Int32) → Prop}  (hw : wpJ19_indexOf_2 K  sv sn sf tv tn tf) : cI Γ l yJ19_indexOf_2 (ws_ yJ19_indexOf_2 cJ19_indexOf_2 2 (some .int)) rmJ19_indexOf_2 (eA (eT3 sv sn sf) (eA (eT3 tv tn tf) (eN Γ))) [.ref sv, .ref tv] [] (fun u : Unit => []) (fun r u => K r ) := by
  refine cI_of (by decide +kernel) (Nat.le_of_ble_eq_true rfl) ?_
  intro p e s m args below meth c ls A Q hQ X hr hlk hnm hE Y hl
  have hx := X.1
  have hb := X.2.1
  have hl : lv_has ls 2 [(0, .ref sv), (1, .ref tv)] := hl
  unfold wpJ19_indexOf_2 at hw
  obtain ⟨H, hH⟩ : ∃ H : Heap, H = s.heap := ⟨_, rfl⟩
  obtain ⟨locs, hlo⟩ : ∃ locs : List Loc, locs = [] := ⟨_, rfl⟩
  rw [← hH, ← hlo] at Y
  rw [← hH, ← hlo]
  refine lv_aload_n hx hb dJ19_indexOf_2_0 rfl (lv_at hl 1 rfl) ?_
  refine ro_len X Y hE.2.1 dJ19_indexOf_2_1 ?_
  refine lv_if_ne (tgt := 7) hx hb dJ19_indexOf_2_2 (by decide) (fun hc => ?_) (fun hc => ?_)
  · have hw := hw.2 hc
    refine lv_aload_n hx hb dJ19_indexOf_2_7 rfl (lv_at hl 0 rfl) ?_
    refine ro_len X Y hE.1 dJ19_indexOf_2_8 ?_
    refine lv_if_ne (tgt := 14) hx hb dJ19_indexOf_2_9 (by decide) (fun hc => ?_) (fun hc => ?_)
    · have hw := hw.2 hc
      refine lv_aload_n hx hb dJ19_indexOf_2_14 rfl (lv_at hl 0 rfl) ?_
      refine lv_aload_n hx hb dJ19_indexOf_2_15 rfl (lv_at hl 0 rfl) ?_
      refine ro_len X Y hE.1 dJ19_indexOf_2_16 ?_
      refine lv_aload_n hx hb dJ19_indexOf_2_17 rfl (lv_at hl 1 rfl) ?_
      refine lv_aload_n hx hb dJ19_indexOf_2_18 rfl (lv_at hl 1 rfl) ?_
      refine ro_len X Y hE.2.1 dJ19_indexOf_2_19 ?_
      refine lv_iconst (v := 0) hx hb dJ19_indexOf_2_20 rfl ?_
      refine cl_SI X Y [] [] rfl rfl rfl (eA_bl eT3_bl (eA_bl eT3_bl eN_bl)) (fun U hU hW => ⟨((eT3_tr.at X hE.1 Y [] [] rfl rfl) U hU hW), ⟨((eT3_tr.at X hE.2.1 Y [] [] rfl rfl) U hU hW), ((eN_tr.at X hE.2.2 Y [] [] rfl rfl) U hU hW)⟩⟩) (mtJ19_indexOf_3 (Γ := Γ) (l := l) hw) (lw_S q2812 q2813 q158 q2814) hdJ19_indexOf_3 ⟨Nat.le_of_ble_eq_true rfl, Nat.le_of_ble_eq_true rfl⟩ rfl hl.1 rfl (Nat.le_of_ble_eq_true rfl) dJ19_indexOf_2_21 ⟨Nat.le_of_ble_eq_true rfl, Nat.le_of_ble_eq_true rfl⟩ (fun r1 u H locs hw Y => ?_)
      have Y : Wo Γ A s H locs [] := Y
      subst hQ
      exact re_i X Y hr hlk () rfl rfl hw (Nat.le_of_ble_eq_true rfl) (Nat.le_of_ble_eq_true rfl) dJ19_indexOf_2_24
    · have hw := hw.1 hc
      refine lv_iconst (v := (-1)) hx hb dJ19_indexOf_2_12 rfl ?_
      subst hQ
      exact re_i X Y hr hlk () rfl rfl hw (Nat.le_of_ble_eq_true rfl) (Nat.le_of_ble_eq_true rfl) dJ19_indexOf_2_13
  · have hw := hw.1 hc
    refine lv_iconst (v := 0) hx hb dJ19_indexOf_2_5 rfl ?_
    subst hQ
    exact re_i X Y hr hlk () rfl rfl hw (Nat.le_of_ble_eq_true rfl) (Nat.le_of_ble_eq_true rfl) dJ19_indexOf_2_6
def wpJ7_indexOf_3 (K : (Int32) → Prop)  (sa : Nat) (sv : Nat) (sn : Nat) (sf : Nat → Int32) (ta : Nat) (tv : Nat) (tn : Nat) (tf : Nat → Int32) : Prop := wpJ7_coder (fun r1 => (wpJ7_coder (fun r2 => ((r1 = r2 → (wpJ7_isLatin1 (fun r3 => ((r3 = 0 → (False)) ∧ (¬ r3 = 0 → (wpJ19_indexOf_2 (fun r4 => (K r4))  sv sn sf tv tn tf))))  sa sv sn sf)) ∧ (¬ r1 = r2 → ((r1 = 0 → (K (-1))) ∧ (¬ r1 = 0 → (False))))))  ta tv tn tf))  sa sv sn sf
abbrev rmJ7_indexOf_3 : Room := { frames := 2, cells := 0, slots := 0, locals := 51 }
theorem hdJ7_indexOf_3 : yJ7_indexOf_3.cls ≠ "java/lang/invoke/MethodHandle" ∧ yJ7_indexOf_3.cls ≠ "java/lang/invoke/VarHandle" ∧ (parseMethodDescriptor yJ7_indexOf_3.desc).map (fun d => d.parameters.length) = some 1 := by decide +kernel
theorem hpJ7_indexOf_3 : yJ7_indexOf_3.name ≠ "<init>" ∧ (parseMethodDescriptor yJ7_indexOf_3.desc).map (fun d => d.parameters.length) = some 1 := by decide +kernel
theorem huJ7_indexOf_3 : RJ7 ≠ "java/lang/invoke/MethodHandle" ∧ RJ7 ≠ "java/lang/invoke/VarHandle" ∧ (parseMethodDescriptor yJ7_indexOf_3.desc).map (fun d => d.parameters.length) = some 1 := by decide +kernel
set_option maxHeartbeats 4000000 in
theorem mtJ7_indexOf_3 {Γ : gT} {l : Launch} {sa : Nat} {sv : Nat} {sn : Nat} {sf : Nat → Int32} {ta : Nat} {tv : Nat} {tn : Nat} {tf : Nat → Int32} {K : (Int32) → Prop}  (hw : wpJ7_indexOf_3 K  sa sv sn sf ta tv tn tf) : cI Γ l yJ7_indexOf_3 (ws_ yJ7_indexOf_3 cJ7_indexOf_3 3 (some .int)) rmJ7_indexOf_3 (eA (eR sa sv sn sf) (eA (eR ta tv tn tf) (eN Γ))) [.ref sa, .ref ta] [] (fun u : Unit => []) (fun r u => K r ) := by
  refine cI_of (by decide +kernel) (Nat.le_of_ble_eq_true rfl) ?_
  intro p e s m args below meth c ls A Q hQ X hr hlk hnm hE Y hl
  have hx := X.1
  have hb := X.2.1
  have hl : lv_has ls 3 [(0, .ref sa), (1, .ref ta)] := hl
  unfold wpJ7_indexOf_3 at hw
  obtain ⟨H, hH⟩ : ∃ H : Heap, H = s.heap := ⟨_, rfl⟩
  obtain ⟨locs, hlo⟩ : ∃ locs : List Loc, locs = [] := ⟨_, rfl⟩
  rw [← hH, ← hlo] at Y
  rw [← hH, ← hlo]
  refine lv_aload_n hx hb dJ7_indexOf_3_0 rfl (lv_at hl 0 rfl) ?_
  refine cv_VI X Y [] [] rfl rfl rfl (eA_bl eR_bl eN_bl) (fun U hU hW => ⟨((eR_tr.at X hE.1 Y [] [] rfl rfl) U hU hW), ((eN_tr.at X hE.2.2 Y [] [] rfl rfl) U hU hW)⟩) (mtJ7_coder (Γ := Γ) (l := l) hw) (lw_V q522 q523 q524 q141 q525) ⟨rfl, hdJ7_coder⟩ ⟨Nat.le_of_ble_eq_true rfl, Nat.le_of_ble_eq_true rfl⟩ (ro_recv Y hE.1) rfl hl.1 rfl (Nat.le_of_ble_eq_true rfl) dJ7_indexOf_3_1 ⟨Nat.le_of_ble_eq_true rfl, Nat.le_of_ble_eq_true rfl⟩ (fun r1 u H locs hw Y => ?_)
  have Y : Wo Γ A s H locs [] := Y
  refine lv_istore_n (lv' := [(2, .int r1), (0, .ref sa), (1, .ref ta)]) hx hb dJ7_indexOf_3_4 rfl hl (by decide) rfl (fun ls hl => ?_)
  refine lv_iload_n hx hb dJ7_indexOf_3_5 rfl (lv_at hl 0 rfl) ?_
  refine lv_aload_n hx hb dJ7_indexOf_3_6 rfl (lv_at hl 2 rfl) ?_
  refine cv_VI X Y [] [] rfl rfl rfl (eA_bl eR_bl eN_bl) (fun U hU hW => ⟨((eR_tr.at X hE.2.1 Y [] [] rfl rfl) U hU hW), ((eN_tr.at X hE.2.2 Y [] [] rfl rfl) U hU hW)⟩) (mtJ7_coder (Γ := Γ) (l := l) hw) (lw_V q522 q523 q524 q141 q525) ⟨rfl, hdJ7_coder⟩ ⟨Nat.le_of_ble_eq_true rfl, Nat.le_of_ble_eq_true rfl⟩ (ro_recv Y hE.2.1) rfl hl.1 rfl (Nat.le_of_ble_eq_true rfl) dJ7_indexOf_3_7 ⟨Nat.le_of_ble_eq_true rfl, Nat.le_of_ble_eq_true rfl⟩ (fun r2 u H locs hw Y => ?_)
  have Y : Wo Γ A s H locs [] := Y
  refine lv_icmp_ne (tgt := 46) hx hb dJ7_indexOf_3_10 (by decide) (fun hc => ?_) (fun hc => ?_)
  · have hw := hw.2 hc
    refine lv_iload_n hx hb dJ7_indexOf_3_46 rfl (lv_at hl 0 rfl) ?_
    refine lv_if_ne (tgt := 52) hx hb dJ7_indexOf_3_47 (by decide) (fun hc => ?_) (fun hc => ?_)
    · have hw := hw.2 hc
      refine lv_aload_n hx hb dJ7_indexOf_3_52 rfl (lv_at hl 1 rfl) ?_
      refine vk_getf hx hb hE.1.2.2.1 Y.2.2 X.2.2.2.1 (X.2.2.2.2.1 _ q879) (fun _ h => h) dJ7_indexOf_3_53 ?_
      refine lv_aload_n hx hb dJ7_indexOf_3_56 rfl (lv_at hl 2 rfl) ?_
      refine vk_getf hx hb hE.2.1.2.2.1 Y.2.2 X.2.2.2.1 (X.2.2.2.2.1 _ q879) (fun _ h => h) dJ7_indexOf_3_57 ?_
      exact hw.elim
    · have hw := hw.1 hc
      refine lv_iconst (v := (-1)) hx hb dJ7_indexOf_3_50 rfl ?_
      subst hQ
      exact re_i X Y hr hlk () rfl rfl hw (Nat.le_of_ble_eq_true rfl) (Nat.le_of_ble_eq_true rfl) dJ7_indexOf_3_51
  · have hw := hw.1 hc
    refine lv_aload_n hx hb dJ7_indexOf_3_13 rfl (lv_at hl 1 rfl) ?_
    refine cv_VI X Y [] [] rfl rfl rfl (eA_bl eR_bl eN_bl) (fun U hU hW => ⟨((eR_tr.at X hE.1 Y [] [] rfl rfl) U hU hW), ((eN_tr.at X hE.2.2 Y [] [] rfl rfl) U hU hW)⟩) (mtJ7_isLatin1 (Γ := Γ) (l := l) hw) (lw_V q513 q514 q515 q141 q516) ⟨rfl, hdJ7_isLatin1⟩ ⟨Nat.le_of_ble_eq_true rfl, Nat.le_of_ble_eq_true rfl⟩ (ro_recv Y hE.1) rfl hl.1 rfl (Nat.le_of_ble_eq_true rfl) dJ7_indexOf_3_14 ⟨Nat.le_of_ble_eq_true rfl, Nat.le_of_ble_eq_true rfl⟩ (fun r3 u H locs hw Y => ?_)
    have Y : Wo Γ A s H locs [] := Y
    refine lv_if_eq (tgt := 34) hx hb dJ7_indexOf_3_17 (by decide) (fun hc => ?_) (fun hc => ?_)
    · have hw := hw.1 hc
      refine lv_aload_n hx hb dJ7_indexOf_3_34 rfl (lv_at hl 1 rfl) ?_
      refine vk_getf hx hb hE.1.2.2.1 Y.2.2 X.2.2.2.1 (X.2.2.2.2.1 _ q879) (fun _ h => h) dJ7_indexOf_3_35 ?_
      refine lv_aload_n hx hb dJ7_indexOf_3_38 rfl (lv_at hl 2 rfl) ?_
      refine vk_getf hx hb hE.2.1.2.2.1 Y.2.2 X.2.2.2.1 (X.2.2.2.2.1 _ q879) (fun _ h => h) dJ7_indexOf_3_39 ?_
      exact hw.elim
    · have hw := hw.2 hc
      refine lv_aload_n hx hb dJ7_indexOf_3_20 rfl (lv_at hl 1 rfl) ?_
      refine vk_getf hx hb hE.1.2.2.1 Y.2.2 X.2.2.2.1 (X.2.2.2.2.1 _ q879) (fun _ h => h) dJ7_indexOf_3_21 ?_
      refine lv_aload_n hx hb dJ7_indexOf_3_24 rfl (lv_at hl 2 rfl) ?_
      refine vk_getf hx hb hE.2.1.2.2.1 Y.2.2 X.2.2.2.1 (X.2.2.2.2.1 _ q879) (fun _ h => h) dJ7_indexOf_3_25 ?_
      refine cl_SI X Y [] [] rfl rfl rfl (eA_bl eT3_bl (eA_bl eT3_bl eN_bl)) (fun U hU hW => ⟨((eT3_tr.at X (eR_arr hE.1) Y [] [] rfl rfl) U hU hW), ⟨((eT3_tr.at X (eR_arr hE.2.1) Y [] [] rfl rfl) U hU hW), ((eN_tr.at X hE.2.2 Y [] [] rfl rfl) U hU hW)⟩⟩) (mtJ19_indexOf_2 (Γ := Γ) (l := l) hw) (lw_S q2809 q2810 q158 q2811) hdJ19_indexOf_2 ⟨Nat.le_of_ble_eq_true rfl, Nat.le_of_ble_eq_true rfl⟩ rfl hl.1 rfl (Nat.le_of_ble_eq_true rfl) dJ7_indexOf_3_28 ⟨Nat.le_of_ble_eq_true rfl, Nat.le_of_ble_eq_true rfl⟩ (fun r4 u H locs hw Y => ?_)
      have Y : Wo Γ A s H locs [] := Y
      refine lv_goto (tgt := 45) hx hb dJ7_indexOf_3_31 (by decide) ?_
      subst hQ
      exact re_i X Y hr hlk () rfl rfl hw (Nat.le_of_ble_eq_true rfl) (Nat.le_of_ble_eq_true rfl) dJ7_indexOf_3_45
def wpJ19_equals (K : (Int32) → Prop)  (sv : Nat) (sn : Nat) (sf : Nat → Int32) (tv : Nat) (tn : Nat) (tf : Nat → Int32) : Prop := ((nI sn) = (nI tn) → (∃ I1 : Nat → (Int32) → Prop, (∃ n, I1 n 0) ∧ ∀ (n2 : Nat) (x3 : Int32), I1 n2 x3 → (((nI sn) ≤ x3 → (K 1)) ∧ (¬ (nI sn) ≤ x3 → (vp_in x3 sn ∧ (vp_in x3 tn ∧ (((sf x3.toNatClampNeg) = (tf x3.toNatClampNeg) → (∃ n4, n4 < n2 ∧ I1 n4 (x3 + 1))) ∧ (¬ (sf x3.toNatClampNeg) = (tf x3.toNatClampNeg) → (K 0))))))))) ∧ (¬ (nI sn) = (nI tn) → (K 0))
abbrev rmJ19_equals : Room := { frames := 0, cells := 0, slots := 0, locals := 0 }
theorem hdJ19_equals : yJ19_equals.cls ≠ "java/lang/invoke/MethodHandle" ∧ yJ19_equals.cls ≠ "java/lang/invoke/VarHandle" ∧ (parseMethodDescriptor yJ19_equals.desc).map (fun d => d.parameters.length) = some 2 := by decide +kernel
set_option maxHeartbeats 4000000 in
theorem mtJ19_equals {Γ : gT} {l : Launch} {sv : Nat} {sn : Nat} {sf : Nat → Int32} {tv : Nat} {tn : Nat} {tf : Nat → Int32} {K : (Int32) → Prop}  (hw : wpJ19_equals K  sv sn sf tv tn tf) : cI Γ l yJ19_equals (ws_ yJ19_equals cJ19_equals 3 (some .boolean)) rmJ19_equals (eA (eT3 sv sn sf) (eA (eT3 tv tn tf) (eN Γ))) [.ref sv, .ref tv] [] (fun u : Unit => []) (fun r u => K r ) := by
  refine cI_of (by decide +kernel) (Nat.le_of_ble_eq_true rfl) ?_
  intro p e s m args below meth c ls A Q hQ X hr hlk hnm hE Y hl
  have hx := X.1
  have hb := X.2.1
  have hl : lv_has ls 3 [(0, .ref sv), (1, .ref tv)] := hl
  unfold wpJ19_equals at hw
  obtain ⟨H, hH⟩ : ∃ H : Heap, H = s.heap := ⟨_, rfl⟩
  obtain ⟨locs, hlo⟩ : ∃ locs : List Loc, locs = [] := ⟨_, rfl⟩
  rw [← hH, ← hlo] at Y
  rw [← hH, ← hlo]
  refine lv_aload_n hx hb dJ19_equals_0 rfl (lv_at hl 0 rfl) ?_
  refine ro_len X Y hE.1 dJ19_equals_1 ?_
  refine lv_aload_n hx hb dJ19_equals_2 rfl (lv_at hl 1 rfl) ?_
  refine ro_len X Y hE.2.1 dJ19_equals_3 ?_
  refine lv_icmp_ne (tgt := 34) hx hb dJ19_equals_4 (by decide) (fun hc => ?_) (fun hc => ?_)
  · have hw := hw.2 hc
    refine lv_iconst (v := 0) hx hb dJ19_equals_34 rfl ?_
    subst hQ
    exact re_i X Y hr hlk () rfl rfl hw (Nat.le_of_ble_eq_true rfl) (Nat.le_of_ble_eq_true rfl) dJ19_equals_35
  · have hw := hw.1 hc
    refine lv_iconst (v := 0) hx hb dJ19_equals_7 rfl ?_
    refine lv_istore_n (lv' := [(2, .int 0), (0, .ref sv), (1, .ref tv)]) hx hb dJ19_equals_8 rfl hl (by decide) rfl (fun ls hl => ?_)
    obtain ⟨I1, hw0, hwI⟩ := hw
    have hI1 : ∀ (n2 : Nat) (x3 : Int32) (H : Heap) (locs : List Loc) (ls : Array Slot), I1 n2 x3 → Wo Γ A s H locs [] → lv_has ls 3 [(0, .ref sv), (1, .ref tv), (2, .int x3)] → W p l e rmJ19_equals s m args below meth c H locs 0 0 Q (F0 m 9 ls []) := by
      intro n2
      induction n2 using Nat.strongRecOn with
      | ind n2 ihn2 =>
        intro x3 H locs ls hw Y hl
        have hw := hwI n2 x3 hw
        refine lv_iload_n hx hb dJ19_equals_9 rfl (lv_at hl 2 rfl) ?_
        refine lv_aload_n hx hb dJ19_equals_10 rfl (lv_at hl 0 rfl) ?_
        refine ro_len X Y hE.1 dJ19_equals_11 ?_
        refine lv_icmp_ge (tgt := 32) hx hb dJ19_equals_12 (by decide) (fun hc => ?_) (fun hc => ?_)
        · have hw := hw.1 hc
          refine lv_iconst (v := 1) hx hb dJ19_equals_32 rfl ?_
          subst hQ
          exact re_i X Y hr hlk () rfl rfl hw (Nat.le_of_ble_eq_true rfl) (Nat.le_of_ble_eq_true rfl) dJ19_equals_33
        · have hw := hw.2 hc
          refine lv_aload_n hx hb dJ19_equals_15 rfl (lv_at hl 0 rfl) ?_
          refine lv_iload_n hx hb dJ19_equals_16 rfl (lv_at hl 2 rfl) ?_
          refine ro_ald X Y hE.1 hw.1 dJ19_equals_17 ?_
          have hw := hw.2
          refine lv_aload_n hx hb dJ19_equals_18 rfl (lv_at hl 1 rfl) ?_
          refine lv_iload_n hx hb dJ19_equals_19 rfl (lv_at hl 2 rfl) ?_
          refine ro_ald X Y hE.2.1 hw.1 dJ19_equals_20 ?_
          have hw := hw.2
          refine lv_icmp_eq (tgt := 26) hx hb dJ19_equals_21 (by decide) (fun hc => ?_) (fun hc => ?_)
          · have hw := hw.1 hc
            refine lv_iinc (v := x3 + 1) (lv' := [(2, .int (x3 + 1)), (0, .ref sv), (1, .ref tv)]) hx hb dJ19_equals_26 hl (k := 2) rfl rfl (by decide) rfl (fun ls hl => ?_)
            refine lv_goto (tgt := 9) hx hb dJ19_equals_29 (by decide) ?_
            obtain ⟨n4, hlt, hw⟩ := hw
            exact ihn2 n4 hlt (x3 + 1) H locs ls hw Y (lv_sub hl [1, 2, 0] rfl)
          · have hw := hw.2 hc
            refine lv_iconst (v := 0) hx hb dJ19_equals_24 rfl ?_
            subst hQ
            exact re_i X Y hr hlk () rfl rfl hw (Nat.le_of_ble_eq_true rfl) (Nat.le_of_ble_eq_true rfl) dJ19_equals_25
    obtain ⟨n0, hw0⟩ := hw0
    exact hI1 n0 0 H locs ls hw0 Y (lv_sub hl [1, 2, 0] rfl)
def wpJ7_equals (K : (Int32) → Prop)  (sa : Nat) (sv : Nat) (sn : Nat) (sf : Nat → Int32) (ta : Nat) (tv : Nat) (tn : Nat) (tf : Nat → Int32) : Prop := ((some sa) = (some ta) → (K 1)) ∧ (¬ (some sa) = (some ta) → (((1 : Int32) = 0 → (K 0)) ∧ (¬ (1 : Int32) = 0 → (∃ J1 : Prop, (J1 → (wpJ19_equals (fun r2 => ((r2 = 0 → (K 0)) ∧ (¬ r2 = 0 → (K 1))))  sv sn sf tv tn tf)) ∧ (((1 : Int32) = 0 → (J1)) ∧ (¬ (1 : Int32) = 0 → (((0 : Int32) = 0 → (J1)) ∧ (¬ (0 : Int32) = 0 → (K 0)))))))))
abbrev rmJ7_equals : Room := { frames := 1, cells := 0, slots := 0, locals := 22 }
theorem hdJ7_equals : yJ7_equals.cls ≠ "java/lang/invoke/MethodHandle" ∧ yJ7_equals.cls ≠ "java/lang/invoke/VarHandle" ∧ (parseMethodDescriptor yJ7_equals.desc).map (fun d => d.parameters.length) = some 1 := by decide +kernel
theorem hpJ7_equals : yJ7_equals.name ≠ "<init>" ∧ (parseMethodDescriptor yJ7_equals.desc).map (fun d => d.parameters.length) = some 1 := by decide +kernel
theorem huJ7_equals : RJ7 ≠ "java/lang/invoke/MethodHandle" ∧ RJ7 ≠ "java/lang/invoke/VarHandle" ∧ (parseMethodDescriptor yJ7_equals.desc).map (fun d => d.parameters.length) = some 1 := by decide +kernel
set_option maxHeartbeats 4000000 in
theorem mtJ7_equals {Γ : gT} {l : Launch} {sa : Nat} {sv : Nat} {sn : Nat} {sf : Nat → Int32} {ta : Nat} {tv : Nat} {tn : Nat} {tf : Nat → Int32} {K : (Int32) → Prop}  (hw : wpJ7_equals K  sa sv sn sf ta tv tn tf) : cI Γ l yJ7_equals (ws_ yJ7_equals cJ7_equals 3 (some .boolean)) rmJ7_equals (eA (eR sa sv sn sf) (eA (eR ta tv tn tf) (eN Γ))) [.ref sa, .ref ta] [] (fun u : Unit => []) (fun r u => K r ) := by
  refine cI_of (by decide +kernel) (Nat.le_of_ble_eq_true rfl) ?_
  intro p e s m args below meth c ls A Q hQ X hr hlk hnm hE Y hl
  have hx := X.1
  have hb := X.2.1
  have hl : lv_has ls 3 [(0, .ref sa), (1, .ref ta)] := hl
  unfold wpJ7_equals at hw
  obtain ⟨H, hH⟩ : ∃ H : Heap, H = s.heap := ⟨_, rfl⟩
  obtain ⟨locs, hlo⟩ : ∃ locs : List Loc, locs = [] := ⟨_, rfl⟩
  rw [← hH, ← hlo] at Y
  rw [← hH, ← hlo]
  refine lv_aload_n hx hb dJ7_equals_0 rfl (lv_at hl 0 rfl) ?_
  refine lv_aload_n hx hb dJ7_equals_1 rfl (lv_at hl 1 rfl) ?_
  refine lv_acmp_ne (rx := some sa) (ry := some ta) (tgt := 7) hx hb dJ7_equals_2 (by decide) (fun hc => ?_) (fun hc => ?_)
  · have hw := hw.2 hc
    refine lv_aload_n hx hb dJ7_equals_7 rfl (lv_at hl 1 rfl) ?_
    refine va_instE hx hb X.2.2.2.1 (X.2.2.2.2.1 _ q1110) (ro_recv Y hE.2.1) dJ7_equals_8 ?_
    refine lv_if_eq (tgt := 54) hx hb dJ7_equals_11 (by decide) (fun hc => ?_) (fun hc => ?_)
    · have hw := hw.1 hc
      refine lv_iconst (v := 0) hx hb dJ7_equals_54 rfl ?_
      subst hQ
      exact re_i X Y hr hlk () rfl rfl hw (Nat.le_of_ble_eq_true rfl) (Nat.le_of_ble_eq_true rfl) dJ7_equals_55
    · have hw := hw.2 hc
      refine lv_aload_n hx hb dJ7_equals_14 rfl (lv_at hl 1 rfl) ?_
      refine va_castE hx hb X.2.2.2.1 (X.2.2.2.2.1 _ q1110) (ro_recv Y hE.2.1) dJ7_equals_15 ?_
      refine lv_astore_n (lv' := [(2, .ref ta), (0, .ref sa), (1, .ref ta)]) hx hb dJ7_equals_18 rfl hl (by decide) rfl (fun ls hl => ?_)
      refine st_getI X Y hE.2.2 0 rfl (X.2.2.2.2.1 _ q517) dJ7_equals_19 ?_
      obtain ⟨J1, hwR, hw⟩ := hw
      have hJ1 : ∀ (H : Heap) (locs : List Loc) (ls : Array Slot), J1  → Wo Γ A s H locs [] → lv_has ls 3 [(0, .ref sa), (2, .ref ta)] → W p l e rmJ7_equals s m args below meth c H locs 0 0 Q (F0 m 36 ls []) := by
        intro  H locs ls hw Y hl
        have hw := hwR  hw
        refine lv_aload_n hx hb dJ7_equals_36 rfl (lv_at hl 0 rfl) ?_
        refine vk_getf hx hb hE.1.2.2.1 Y.2.2 X.2.2.2.1 (X.2.2.2.2.1 _ q879) (fun _ h => h) dJ7_equals_37 ?_
        refine lv_aload_n hx hb dJ7_equals_40 rfl (lv_at hl 1 rfl) ?_
        refine vk_getf hx hb hE.2.1.2.2.1 Y.2.2 X.2.2.2.1 (X.2.2.2.2.1 _ q879) (fun _ h => h) dJ7_equals_41 ?_
        refine cl_SI X Y [] [] rfl rfl rfl (eA_bl eT3_bl (eA_bl eT3_bl eN_bl)) (fun U hU hW => ⟨((eT3_tr.at X (eR_arr hE.1) Y [] [] rfl rfl) U hU hW), ⟨((eT3_tr.at X (eR_arr hE.2.1) Y [] [] rfl rfl) U hU hW), ((eN_tr.at X hE.2.2 Y [] [] rfl rfl) U hU hW)⟩⟩) (mtJ19_equals (Γ := Γ) (l := l) hw) (lw_S q1602 q1603 q158 q1604) hdJ19_equals ⟨Nat.le_of_ble_eq_true rfl, Nat.le_of_ble_eq_true rfl⟩ rfl hl.1 rfl (Nat.le_of_ble_eq_true rfl) dJ7_equals_44 ⟨Nat.le_of_ble_eq_true rfl, Nat.le_of_ble_eq_true rfl⟩ (fun r2 u H locs hw Y => ?_)
        have Y : Wo Γ A s H locs [] := Y
        refine lv_if_eq (tgt := 54) hx hb dJ7_equals_47 (by decide) (fun hc => ?_) (fun hc => ?_)
        · have hw := hw.1 hc
          refine lv_iconst (v := 0) hx hb dJ7_equals_54 rfl ?_
          subst hQ
          exact re_i X Y hr hlk () rfl rfl hw (Nat.le_of_ble_eq_true rfl) (Nat.le_of_ble_eq_true rfl) dJ7_equals_55
        · have hw := hw.2 hc
          refine lv_iconst (v := 1) hx hb dJ7_equals_50 rfl ?_
          refine lv_goto (tgt := 55) hx hb dJ7_equals_51 (by decide) ?_
          subst hQ
          exact re_i X Y hr hlk () rfl rfl hw (Nat.le_of_ble_eq_true rfl) (Nat.le_of_ble_eq_true rfl) dJ7_equals_55
      refine lv_if_eq (tgt := 36) hx hb dJ7_equals_22 (by decide) (fun hc => ?_) (fun hc => ?_)
      · have hw := hw.1 hc
        exact hJ1  H locs ls hw Y (lv_sub hl [1, 0] rfl)
      · have hw := hw.2 hc
        refine lv_aload_n hx hb dJ7_equals_25 rfl (lv_at hl 1 rfl) ?_
        refine vk_getf hx hb hE.1.2.1 Y.2.2 X.2.2.2.1 (X.2.2.2.2.1 _ q880) (fun _ h => h) dJ7_equals_26 ?_
        refine lv_aload_n hx hb dJ7_equals_29 rfl (lv_at hl 0 rfl) ?_
        refine vk_getf hx hb hE.2.1.2.1 Y.2.2 X.2.2.2.1 (X.2.2.2.2.1 _ q880) (fun _ h => h) dJ7_equals_30 ?_
        refine lv_icmp_ne (tgt := 54) hx hb dJ7_equals_33 (by decide) (fun hc => ?_) (fun hc => ?_)
        · have hw := hw.2 hc
          refine lv_iconst (v := 0) hx hb dJ7_equals_54 rfl ?_
          subst hQ
          exact re_i X Y hr hlk () rfl rfl hw (Nat.le_of_ble_eq_true rfl) (Nat.le_of_ble_eq_true rfl) dJ7_equals_55
        · have hw := hw.1 hc
          exact hJ1  H locs ls hw Y (lv_sub hl [1, 0] rfl)
  · have hw := hw.1 hc
    refine lv_iconst (v := 1) hx hb dJ7_equals_5 rfl ?_
    subst hQ
    exact re_i X Y hr hlk () rfl rfl hw (Nat.le_of_ble_eq_true rfl) (Nat.le_of_ble_eq_true rfl) dJ7_equals_6
def wpJ19_newString (mc ms : Nat) (K : (Nat) → (Int32) → (Nat) → (Nat) → (Nat → Int32) → Prop)  (sv : Nat) (sn : Nat) (sf : Nat → Int32) (a1 : Int32) (a2 : Int32) : Prop := (a2 = 0 → (False)) ∧ (¬ a2 = 0 → ((0 + 1 ≤ mc ∧ 0 + 4 ≤ ms) ∧ ∀ q1 : Nat, (∃ mc5 ms6 : Nat, ((0 + 1) + mc5 ≤ mc ∧ (0 + 4) + ms6 ≤ ms) ∧ wpJ27_copyOfRanger mc5 ms6 (fun q2 q3 z4 => (wpJ7_init_3 (fun z7 => (K q1 z7 q2 q3 z4))  q1 q2 q3 z4 0))  sv sn sf a1 (a1 + a2))))
abbrev rmJ19_newString (mc ms : Nat) : Room := { frames := 3, cells := mc, slots := ms, locals := 106 }
theorem hdJ19_newString : yJ19_newString.cls ≠ "java/lang/invoke/MethodHandle" ∧ yJ19_newString.cls ≠ "java/lang/invoke/VarHandle" ∧ (parseMethodDescriptor yJ19_newString.desc).map (fun d => d.parameters.length) = some 3 := by decide +kernel
set_option maxHeartbeats 4000000 in
theorem mtJ19_newString {Γ : gT} {l : Launch} {mc ms : Nat} {sv : Nat} {sn : Nat} {sf : Nat → Int32} {a1 : Int32} {a2 : Int32} {K : (Nat) → (Int32) → (Nat) → (Nat) → (Nat → Int32) → Prop}  (hw : wpJ19_newString mc ms K  sv sn sf a1 a2) : cR Γ l yJ19_newString (ws_ yJ19_newString cJ19_newString 3 (some (.object "java/lang/String"))) (rmJ19_newString mc ms) (eA (eT3 sv sn sf) (eN Γ)) [.ref sv, .int a1, .int a2] [] (fun u : (Nat) × (Int32) × (Nat) × (Nat) × (Nat → Int32) => [[(u.1, .inr (16, [.ref u.2.2.1, .int u.2.1, .int 0, .int 0]))], [(u.2.2.1, .inl (Γ.2.1 3, u.2.2.2.1, .inl u.2.2.2.2))]]) (fun r u => r = some u.1 ∧ K u.1 u.2.1 u.2.2.1 u.2.2.2.1 u.2.2.2.2) := by
  refine cR_of (by decide +kernel) (Nat.le_of_ble_eq_true rfl) ?_
  intro p e s m args below meth c ls A Q hQ X hr hlk hnm hE Y hl
  have hx := X.1
  have hb := X.2.1
  have hl : lv_has ls 3 [(0, .ref sv), (1, .int a1), (2, .int a2)] := hl
  unfold wpJ19_newString at hw
  obtain ⟨H, hH⟩ : ∃ H : Heap, H = s.heap := ⟨_, rfl⟩
  obtain ⟨locs, hlo⟩ : ∃ locs : List Loc, locs = [] := ⟨_, rfl⟩
  rw [← hH, ← hlo] at Y
  rw [← hH, ← hlo]
  have hk : 0 ≤ mc ∧ 0 ≤ ms := ⟨Nat.zero_le _, Nat.zero_le _⟩
  refine lv_iload_n hx hb dJ19_newString_0 rfl (lv_at hl 2 rfl) ?_
  refine lv_if_ne (tgt := 7) hx hb dJ19_newString_1 (by decide) (fun hc => ?_) (fun hc => ?_)
  · have hw := hw.2 hc
    refine ob_new X Y fcJ7 q2060 q648 q141 (fs := [.null, .int 0, .int 0, .int 0]) (fun j hj => by rcases (show j = 0 ∨ j = 1 ∨ j = 2 ∨ j = 3 by omega) with rfl | rfl | rfl | rfl <;> rfl) hw.1.1 hw.1.2 dJ19_newString_7 (fun q1 H Y => ?_)
    have hk := hw.1
    have Y : Wo Γ A s H locs [[(q1, .inr (16, [.null, .int 0, .int 0, .int 0]))]] := Y
    have hw := hw.2 q1
    refine lv_dup hx hb dJ19_newString_10 rfl ?_
    refine lv_aload_n hx hb dJ19_newString_11 rfl (lv_at hl 0 rfl) ?_
    refine lv_iload_n hx hb dJ19_newString_12 rfl (lv_at hl 1 rfl) ?_
    refine lv_iload_n hx hb dJ19_newString_13 rfl (lv_at hl 1 rfl) ?_
    refine lv_iload_n hx hb dJ19_newString_14 rfl (lv_at hl 2 rfl) ?_
    refine lv_iadd hx hb dJ19_newString_15 ?_
    obtain ⟨mc5, ms6, hk2, hw⟩ := hw
    refine cl_SR X Y [] [0] rfl rfl rfl eT3_bl (fun U hU hW => ((eT3_tr.at X hE.1 Y [] [0] rfl rfl) U hU hW)) (mtJ27_copyOfRanger (Γ := Γ) (l := l) (mc := mc5) (ms := ms6) hw) (lw_S q2061 q675 q167 q676) hdJ27_copyOfRange ⟨Nat.le_of_ble_eq_true rfl, Nat.le_of_ble_eq_true rfl⟩ rfl hl.1 rfl (Nat.le_of_ble_eq_true rfl) dJ19_newString_16 hk2 (fun r u H locs hw Y => ?_)
    obtain ⟨q2, q3, z4⟩ := u
    obtain ⟨rfl, hw⟩ := hw
    have hk : 0 + 1 + mc5 ≤ mc ∧ 0 + 4 + ms6 ≤ ms := hk2
    have Y : Wo Γ A s H locs [[(q2, .inl (Γ.2.1 3, q3, .inl z4))], [(q1, .inr (16, [.null, .int 0, .int 0, .int 0]))]] := Y
    refine lv_iconst (v := 0) hx hb dJ19_newString_19 rfl ?_
    refine cl_IV X Y [1, 0] [] rfl rfl rfl E0_bl (fun _ _ _ => trivial) (mtJ7_init_3 (Γ := Γ) (l := l) hw) (lw_meth q2064) (X.2.2.2.2.1 _ q141) (X.2.2.2.2.1 _ q2062) (X.2.2.2.2.1 _ q2063) rfl hdJ7_init_3 ⟨Nat.le_of_ble_eq_true rfl, Nat.le_of_ble_eq_true rfl⟩ rfl hl.1 rfl (Nat.le_of_ble_eq_true rfl) dJ19_newString_20 hk (fun  u H locs hw Y => ?_)
    obtain ⟨z7, rfl⟩ : ∃ z, z = u := ⟨_, rfl⟩
    have Y : Wo Γ A s H locs [[(q1, .inr (16, [.ref q2, .int z7, .int 0, .int 0]))], [(q2, .inl (Γ.2.1 3, q3, .inl z4))]] := Y
    subst hQ
    exact re_r (r := some q1) X Y hr (by first | exact Or.inl ⟨_, rfl⟩ | exact Or.inr ⟨_, rfl⟩) hlk (q1, z7, q2, q3, z4) rfl ⟨rfl, hw⟩ (hk.1) (hk.2) dJ19_newString_23
  · have hw := hw.1 hc
    refine st_ldc X hE.2 63 rfl dJ19_newString_4 ?_
    exact hw.elim
def wpJ7_substring_2 (mc ms : Nat) (K : (Nat) → (Int32) → (Nat) → (Nat) → (Nat → Int32) → Prop)  (sa : Nat) (sv : Nat) (sn : Nat) (sf : Nat → Int32) (a1 : Int32) (a2 : Int32) : Prop := wpJ7_length (fun r1 => (wpJ7_checkBoundsBeginEnd (∃ J2 : Prop, (J2 → (wpJ7_isLatin1 (fun r3 => ((r3 = 0 → (False)) ∧ (¬ r3 = 0 → (∃ mc9 ms10 : Nat, (0 + mc9 ≤ mc ∧ 0 + ms10 ≤ ms) ∧ wpJ19_newString mc9 ms10 (fun q4 z5 q6 q7 z8 => (K q4 z5 q6 q7 z8))  sv sn sf a1 (a2 - a1)))))  sa sv sn sf)) ∧ ((a1 = 0 → ((a2 = r1 → (False)) ∧ (¬ a2 = r1 → (J2)))) ∧ (¬ a1 = 0 → (J2))))  a1 a2 r1))  sa sv sn sf
abbrev rmJ7_substring_2 (mc ms : Nat) : Room := { frames := 4, cells := mc, slots := ms, locals := 128 }
theorem hdJ7_substring_2 : yJ7_substring_2.cls ≠ "java/lang/invoke/MethodHandle" ∧ yJ7_substring_2.cls ≠ "java/lang/invoke/VarHandle" ∧ (parseMethodDescriptor yJ7_substring_2.desc).map (fun d => d.parameters.length) = some 2 := by decide +kernel
theorem hpJ7_substring_2 : yJ7_substring_2.name ≠ "<init>" ∧ (parseMethodDescriptor yJ7_substring_2.desc).map (fun d => d.parameters.length) = some 2 := by decide +kernel
theorem huJ7_substring_2 : RJ7 ≠ "java/lang/invoke/MethodHandle" ∧ RJ7 ≠ "java/lang/invoke/VarHandle" ∧ (parseMethodDescriptor yJ7_substring_2.desc).map (fun d => d.parameters.length) = some 2 := by decide +kernel
set_option maxHeartbeats 4000000 in
theorem mtJ7_substring_2 {Γ : gT} {l : Launch} {mc ms : Nat} {sa : Nat} {sv : Nat} {sn : Nat} {sf : Nat → Int32} {a1 : Int32} {a2 : Int32} {K : (Nat) → (Int32) → (Nat) → (Nat) → (Nat → Int32) → Prop}  (hw : wpJ7_substring_2 mc ms K  sa sv sn sf a1 a2) : cR Γ l yJ7_substring_2 (ws_ yJ7_substring_2 cJ7_substring_2 5 (some (.object "java/lang/String"))) (rmJ7_substring_2 mc ms) (eA (eR sa sv sn sf) (eN Γ)) [.ref sa, .int a1, .int a2] [] (fun u : (Nat) × (Int32) × (Nat) × (Nat) × (Nat → Int32) => [[(u.1, .inr (16, [.ref u.2.2.1, .int u.2.1, .int 0, .int 0]))], [(u.2.2.1, .inl (Γ.2.1 3, u.2.2.2.1, .inl u.2.2.2.2))]]) (fun r u => r = some u.1 ∧ K u.1 u.2.1 u.2.2.1 u.2.2.2.1 u.2.2.2.2) := by
  refine cR_of (by decide +kernel) (Nat.le_of_ble_eq_true rfl) ?_
  intro p e s m args below meth c ls A Q hQ X hr hlk hnm hE Y hl
  have hx := X.1
  have hb := X.2.1
  have hl : lv_has ls 5 [(0, .ref sa), (1, .int a1), (2, .int a2)] := hl
  unfold wpJ7_substring_2 at hw
  obtain ⟨H, hH⟩ : ∃ H : Heap, H = s.heap := ⟨_, rfl⟩
  obtain ⟨locs, hlo⟩ : ∃ locs : List Loc, locs = [] := ⟨_, rfl⟩
  rw [← hH, ← hlo] at Y
  rw [← hH, ← hlo]
  have hk : 0 ≤ mc ∧ 0 ≤ ms := ⟨Nat.zero_le _, Nat.zero_le _⟩
  refine lv_aload_n hx hb dJ7_substring_2_0 rfl (lv_at hl 0 rfl) ?_
  refine cv_VI X Y [] [] rfl rfl rfl (eA_bl eR_bl eN_bl) (fun U hU hW => ⟨((eR_tr.at X hE.1 Y [] [] rfl rfl) U hU hW), ((eN_tr.at X hE.2 Y [] [] rfl rfl) U hU hW)⟩) (mtJ7_length (Γ := Γ) (l := l) hw) (lw_V q518 q519 q520 q141 q521) ⟨rfl, hdJ7_length⟩ ⟨Nat.le_of_ble_eq_true rfl, Nat.le_of_ble_eq_true rfl⟩ (ro_recv Y hE.1) rfl hl.1 rfl (Nat.le_of_ble_eq_true rfl) dJ7_substring_2_1 hk (fun r1 u H locs hw Y => ?_)
  have Y : Wo Γ A s H locs [] := Y
  refine lv_istore_n (lv' := [(3, .int r1), (0, .ref sa), (1, .int a1), (2, .int a2)]) hx hb dJ7_substring_2_4 rfl hl (by decide) rfl (fun ls hl => ?_)
  refine lv_iload_n hx hb dJ7_substring_2_5 rfl (lv_at hl 2 rfl) ?_
  refine lv_iload_n hx hb dJ7_substring_2_6 rfl (lv_at hl 3 rfl) ?_
  refine lv_iload_n hx hb dJ7_substring_2_7 rfl (lv_at hl 0 rfl) ?_
  refine cl_SV X Y [] [] rfl rfl rfl eN_bl (fun U hU hW => ((eN_tr.at X hE.2 Y [] [] rfl rfl) U hU hW)) (mtJ7_checkBoundsBeginEnd (Γ := Γ) (l := l) hw) (lw_S q2055 q557 q141 q558) hdJ7_checkBoundsBeginEnd ⟨Nat.le_of_ble_eq_true rfl, Nat.le_of_ble_eq_true rfl⟩ rfl hl.1 rfl (Nat.le_of_ble_eq_true rfl) dJ7_substring_2_8 hk (fun  u H locs hw Y => ?_)
  have Y : Wo Γ A s H locs [] := Y
  refine lv_iload_n hx hb dJ7_substring_2_11 rfl (lv_at hl 2 rfl) ?_
  obtain ⟨J2, hwR, hw⟩ := hw
  have hJ2 : ∀ (H : Heap) (locs : List Loc) (ls : Array Slot), J2  → (0 ≤ mc ∧ 0 ≤ ms) → Wo Γ A s H locs [] → lv_has ls 5 [(0, .ref sa), (1, .int a1), (2, .int a2)] → W p l e (rmJ7_substring_2 mc ms) s m args below meth c H locs 0 0 Q (F0 m 22 ls []) := by
    intro  H locs ls hw hk Y hl
    have hw := hwR  hw
    refine lv_iload_n hx hb dJ7_substring_2_22 rfl (lv_at hl 2 rfl) ?_
    refine lv_iload_n hx hb dJ7_substring_2_23 rfl (lv_at hl 1 rfl) ?_
    refine lv_isub hx hb dJ7_substring_2_24 ?_
    refine lv_istore (lv' := [(4, .int (a2 - a1)), (0, .ref sa), (1, .int a1), (2, .int a2)]) hx hb dJ7_substring_2_25 hl (by decide) rfl (fun ls hl => ?_)
    refine lv_aload_n hx hb dJ7_substring_2_27 rfl (lv_at hl 1 rfl) ?_
    refine cv_VI X Y [] [] rfl rfl rfl (eA_bl eR_bl eN_bl) (fun U hU hW => ⟨((eR_tr.at X hE.1 Y [] [] rfl rfl) U hU hW), ((eN_tr.at X hE.2 Y [] [] rfl rfl) U hU hW)⟩) (mtJ7_isLatin1 (Γ := Γ) (l := l) hw) (lw_V q513 q514 q515 q141 q516) ⟨rfl, hdJ7_isLatin1⟩ ⟨Nat.le_of_ble_eq_true rfl, Nat.le_of_ble_eq_true rfl⟩ (ro_recv Y hE.1) rfl hl.1 rfl (Nat.le_of_ble_eq_true rfl) dJ7_substring_2_28 hk (fun r3 u H locs hw Y => ?_)
    have Y : Wo Γ A s H locs [] := Y
    refine lv_if_eq (tgt := 47) hx hb dJ7_substring_2_31 (by decide) (fun hc => ?_) (fun hc => ?_)
    · have hw := hw.1 hc
      refine lv_aload_n hx hb dJ7_substring_2_47 rfl (lv_at hl 1 rfl) ?_
      refine vk_getf hx hb hE.1.2.2.1 Y.2.2 X.2.2.2.1 (X.2.2.2.2.1 _ q879) (fun _ h => h) dJ7_substring_2_48 ?_
      refine lv_iload_n hx hb dJ7_substring_2_51 rfl (lv_at hl 2 rfl) ?_
      refine lv_iload hx hb dJ7_substring_2_52 (lv_at hl 0 rfl) ?_
      exact hw.elim
    · have hw := hw.2 hc
      refine lv_aload_n hx hb dJ7_substring_2_34 rfl (lv_at hl 1 rfl) ?_
      refine vk_getf hx hb hE.1.2.2.1 Y.2.2 X.2.2.2.1 (X.2.2.2.2.1 _ q879) (fun _ h => h) dJ7_substring_2_35 ?_
      refine lv_iload_n hx hb dJ7_substring_2_38 rfl (lv_at hl 2 rfl) ?_
      refine lv_iload hx hb dJ7_substring_2_39 (lv_at hl 0 rfl) ?_
      obtain ⟨mc9, ms10, hk2, hw⟩ := hw
      refine cl_SR X Y [] [] rfl rfl rfl (eA_bl eT3_bl eN_bl) (fun U hU hW => ⟨((eT3_tr.at X (eR_arr hE.1) Y [] [] rfl rfl) U hU hW), ((eN_tr.at X hE.2 Y [] [] rfl rfl) U hU hW)⟩) (mtJ19_newString (Γ := Γ) (l := l) (mc := mc9) (ms := ms10) hw) (lw_S q2056 q2057 q158 q2058) hdJ19_newString ⟨Nat.le_of_ble_eq_true rfl, Nat.le_of_ble_eq_true rfl⟩ rfl hl.1 rfl (Nat.le_of_ble_eq_true rfl) dJ7_substring_2_41 hk2 (fun r u H locs hw Y => ?_)
      obtain ⟨q4, z5, q6, q7, z8⟩ := u
      obtain ⟨rfl, hw⟩ := hw
      have hk : 0 + mc9 ≤ mc ∧ 0 + ms10 ≤ ms := hk2
      have Y : Wo Γ A s H locs [[(q4, .inr (16, [.ref q6, .int z5, .int 0, .int 0]))], [(q6, .inl (Γ.2.1 3, q7, .inl z8))]] := Y
      refine lv_goto (tgt := 57) hx hb dJ7_substring_2_44 (by decide) ?_
      subst hQ
      exact re_r (r := some q4) X Y hr (by first | exact Or.inl ⟨_, rfl⟩ | exact Or.inr ⟨_, rfl⟩) hlk (q4, z5, q6, q7, z8) rfl ⟨rfl, hw⟩ (hk.1) (hk.2) dJ7_substring_2_57
  refine lv_if_ne (tgt := 22) hx hb dJ7_substring_2_12 (by decide) (fun hc => ?_) (fun hc => ?_)
  · have hw := hw.2 hc
    exact hJ2  H locs ls hw hk Y (lv_sub hl [1, 2, 3] rfl)
  · have hw := hw.1 hc
    refine lv_iload_n hx hb dJ7_substring_2_15 rfl (lv_at hl 3 rfl) ?_
    refine lv_iload_n hx hb dJ7_substring_2_16 rfl (lv_at hl 0 rfl) ?_
    refine lv_icmp_ne (tgt := 22) hx hb dJ7_substring_2_17 (by decide) (fun hc => ?_) (fun hc => ?_)
    · have hw := hw.2 hc
      exact hJ2  H locs ls hw hk Y (lv_sub hl [1, 2, 3] rfl)
    · have hw := hw.1 hc
      refine lv_aload_n hx hb dJ7_substring_2_20 rfl (lv_at hl 1 rfl) ?_
      exact hw.elim
def wpJ7_substring (mc ms : Nat) (K : (Nat) → (Int32) → (Nat) → (Nat) → (Nat → Int32) → Prop)  (sa : Nat) (sv : Nat) (sn : Nat) (sf : Nat → Int32) (a1 : Int32) : Prop := wpJ7_length (fun r1 => (∃ mc7 ms8 : Nat, (0 + mc7 ≤ mc ∧ 0 + ms8 ≤ ms) ∧ wpJ7_substring_2 mc7 ms8 (fun q2 z3 q4 q5 z6 => (K q2 z3 q4 q5 z6))  sa sv sn sf a1 r1))  sa sv sn sf
abbrev rmJ7_substring (mc ms : Nat) : Room := { frames := 5, cells := mc, slots := ms, locals := 152 }
theorem hdJ7_substring : yJ7_substring.cls ≠ "java/lang/invoke/MethodHandle" ∧ yJ7_substring.cls ≠ "java/lang/invoke/VarHandle" ∧ (parseMethodDescriptor yJ7_substring.desc).map (fun d => d.parameters.length) = some 1 := by decide +kernel
theorem hpJ7_substring : yJ7_substring.name ≠ "<init>" ∧ (parseMethodDescriptor yJ7_substring.desc).map (fun d => d.parameters.length) = some 1 := by decide +kernel
theorem huJ7_substring : RJ7 ≠ "java/lang/invoke/MethodHandle" ∧ RJ7 ≠ "java/lang/invoke/VarHandle" ∧ (parseMethodDescriptor yJ7_substring.desc).map (fun d => d.parameters.length) = some 1 := by decide +kernel
set_option maxHeartbeats 4000000 in
theorem mtJ7_substring {Γ : gT} {l : Launch} {mc ms : Nat} {sa : Nat} {sv : Nat} {sn : Nat} {sf : Nat → Int32} {a1 : Int32} {K : (Nat) → (Int32) → (Nat) → (Nat) → (Nat → Int32) → Prop}  (hw : wpJ7_substring mc ms K  sa sv sn sf a1) : cR Γ l yJ7_substring (ws_ yJ7_substring cJ7_substring 2 (some (.object "java/lang/String"))) (rmJ7_substring mc ms) (eA (eR sa sv sn sf) (eN Γ)) [.ref sa, .int a1] [] (fun u : (Nat) × (Int32) × (Nat) × (Nat) × (Nat → Int32) => [[(u.1, .inr (16, [.ref u.2.2.1, .int u.2.1, .int 0, .int 0]))], [(u.2.2.1, .inl (Γ.2.1 3, u.2.2.2.1, .inl u.2.2.2.2))]]) (fun r u => r = some u.1 ∧ K u.1 u.2.1 u.2.2.1 u.2.2.2.1 u.2.2.2.2) := by
  refine cR_of (by decide +kernel) (Nat.le_of_ble_eq_true rfl) ?_
  intro p e s m args below meth c ls A Q hQ X hr hlk hnm hE Y hl
  have hx := X.1
  have hb := X.2.1
  have hl : lv_has ls 2 [(0, .ref sa), (1, .int a1)] := hl
  unfold wpJ7_substring at hw
  obtain ⟨H, hH⟩ : ∃ H : Heap, H = s.heap := ⟨_, rfl⟩
  obtain ⟨locs, hlo⟩ : ∃ locs : List Loc, locs = [] := ⟨_, rfl⟩
  rw [← hH, ← hlo] at Y
  rw [← hH, ← hlo]
  have hk : 0 ≤ mc ∧ 0 ≤ ms := ⟨Nat.zero_le _, Nat.zero_le _⟩
  refine lv_aload_n hx hb dJ7_substring_0 rfl (lv_at hl 0 rfl) ?_
  refine lv_iload_n hx hb dJ7_substring_1 rfl (lv_at hl 1 rfl) ?_
  refine lv_aload_n hx hb dJ7_substring_2 rfl (lv_at hl 0 rfl) ?_
  refine cv_VI X Y [] [] rfl rfl rfl (eA_bl eR_bl eN_bl) (fun U hU hW => ⟨((eR_tr.at X hE.1 Y [] [] rfl rfl) U hU hW), ((eN_tr.at X hE.2 Y [] [] rfl rfl) U hU hW)⟩) (mtJ7_length (Γ := Γ) (l := l) hw) (lw_V q518 q519 q520 q141 q521) ⟨rfl, hdJ7_length⟩ ⟨Nat.le_of_ble_eq_true rfl, Nat.le_of_ble_eq_true rfl⟩ (ro_recv Y hE.1) rfl hl.1 rfl (Nat.le_of_ble_eq_true rfl) dJ7_substring_3 hk (fun r1 u H locs hw Y => ?_)
  have Y : Wo Γ A s H locs [] := Y
  obtain ⟨mc7, ms8, hk2, hw⟩ := hw
  refine cv_VR X Y [] [] rfl rfl rfl (eA_bl eR_bl eN_bl) (fun U hU hW => ⟨((eR_tr.at X hE.1 Y [] [] rfl rfl) U hU hW), ((eN_tr.at X hE.2 Y [] [] rfl rfl) U hU hW)⟩) (mtJ7_substring_2 (Γ := Γ) (l := l) (mc := mc7) (ms := ms8) hw) (lw_V q2051 q2052 q2053 q141 q2054) ⟨rfl, hdJ7_substring_2⟩ ⟨Nat.le_of_ble_eq_true rfl, Nat.le_of_ble_eq_true rfl⟩ (ro_recv Y hE.1) rfl hl.1 rfl (Nat.le_of_ble_eq_true rfl) dJ7_substring_6 hk2 (fun r u H locs hw Y => ?_)
  obtain ⟨q2, z3, q4, q5, z6⟩ := u
  obtain ⟨rfl, hw⟩ := hw
  have hk : 0 + mc7 ≤ mc ∧ 0 + ms8 ≤ ms := hk2
  have Y : Wo Γ A s H locs [[(q2, .inr (16, [.ref q4, .int z3, .int 0, .int 0]))], [(q4, .inl (Γ.2.1 3, q5, .inl z6))]] := Y
  subst hQ
  exact re_r (r := some q2) X Y hr (by first | exact Or.inl ⟨_, rfl⟩ | exact Or.inr ⟨_, rfl⟩) hlk (q2, z3, q4, q5, z6) rfl ⟨rfl, hw⟩ (hk.1) (hk.2) dJ7_substring_9
def wpJ8_length (K : (Int32) → Prop)  (va : Nat) (cp : Nat) (f : Nat → Int32) : Prop := K ((nI cp) >>> (1 &&& 31))
abbrev rmJ8_length : Room := { frames := 0, cells := 0, slots := 0, locals := 0 }
theorem hdJ8_length : yJ8_length.cls ≠ "java/lang/invoke/MethodHandle" ∧ yJ8_length.cls ≠ "java/lang/invoke/VarHandle" ∧ (parseMethodDescriptor yJ8_length.desc).map (fun d => d.parameters.length) = some 1 := by decide +kernel
set_option maxHeartbeats 4000000 in
theorem mtJ8_length {Γ : gT} {l : Launch} {va : Nat} {cp : Nat} {f : Nat → Int32} {K : (Int32) → Prop}  (hw : wpJ8_length K  va cp f) : cI Γ l yJ8_length (ws_ yJ8_length cJ8_length 1 (some .int)) rmJ8_length E0 [.ref va] [[(va, .inl (Γ.2.1 3, cp, .inl f))]] (fun u : Unit => [[(va, .inl (Γ.2.1 3, cp, .inl f))]]) (fun r u => K r ) := by
  refine cI_of (by decide +kernel) (Nat.le_of_ble_eq_true rfl) ?_
  intro p e s m args below meth c ls A Q hQ X hr hlk hnm hE Y hl
  have hx := X.1
  have hb := X.2.1
  have hl : lv_has ls 1 [(0, .ref va)] := hl
  unfold wpJ8_length at hw
  obtain ⟨H, hH⟩ : ∃ H : Heap, H = s.heap := ⟨_, rfl⟩
  obtain ⟨locs, hlo⟩ : ∃ locs : List Loc, locs = [] := ⟨_, rfl⟩
  rw [← hH, ← hlo] at Y
  rw [← hH, ← hlo]
  refine lv_aload_n hx hb dJ8_length_0 rfl (lv_at hl 0 rfl) ?_
  refine ar_len X Y 0 rfl (t := 3) rfl dJ8_length_1 ?_
  refine lv_iconst (v := 1) hx hb dJ8_length_2 rfl ?_
  refine lv_ishr hx hb dJ8_length_3 ?_
  subst hQ
  exact re_i X Y hr hlk () rfl rfl hw (Nat.le_of_ble_eq_true rfl) (Nat.le_of_ble_eq_true rfl) dJ8_length_4
def wpJ8_newBytesLength (K : (Int32) → Prop)  (a1 : Int32) : Prop := (0 ≤ a1 → ((a1 < 1073741823 → (K (a1 <<< (1 &&& 31)))) ∧ (¬ a1 < 1073741823 → (False)))) ∧ (¬ 0 ≤ a1 → (False))
abbrev rmJ8_newBytesLength : Room := { frames := 0, cells := 0, slots := 0, locals := 0 }
theorem hdJ8_newBytesLength : yJ8_newBytesLength.cls ≠ "java/lang/invoke/MethodHandle" ∧ yJ8_newBytesLength.cls ≠ "java/lang/invoke/VarHandle" ∧ (parseMethodDescriptor yJ8_newBytesLength.desc).map (fun d => d.parameters.length) = some 1 := by decide +kernel
set_option maxHeartbeats 4000000 in
theorem mtJ8_newBytesLength {Γ : gT} {l : Launch} {a1 : Int32} {K : (Int32) → Prop}  (hw : wpJ8_newBytesLength K  a1) : cI Γ l yJ8_newBytesLength (ws_ yJ8_newBytesLength cJ8_newBytesLength 1 (some .int)) rmJ8_newBytesLength E0 [.int a1] [] (fun u : Unit => []) (fun r u => K r ) := by
  refine cI_of (by decide +kernel) (Nat.le_of_ble_eq_true rfl) ?_
  intro p e s m args below meth c ls A Q hQ X hr hlk hnm hE Y hl
  have hx := X.1
  have hb := X.2.1
  have hl : lv_has ls 1 [(0, .int a1)] := hl
  unfold wpJ8_newBytesLength at hw
  obtain ⟨H, hH⟩ : ∃ H : Heap, H = s.heap := ⟨_, rfl⟩
  obtain ⟨locs, hlo⟩ : ∃ locs : List Loc, locs = [] := ⟨_, rfl⟩
  rw [← hH, ← hlo] at Y
  rw [← hH, ← hlo]
  refine lv_iload_n hx hb dJ8_newBytesLength_0 rfl (lv_at hl 0 rfl) ?_
  refine lv_if_ge (tgt := 12) hx hb dJ8_newBytesLength_1 (by decide) (fun hc => ?_) (fun hc => ?_)
  · have hw := hw.1 hc
    refine lv_iload_n hx hb dJ8_newBytesLength_12 rfl (lv_at hl 0 rfl) ?_
    refine lv_ldc (v := 1073741823) hx hb X.2.2.2.1 (X.2.2.2.2.1 _ q281) dJ8_newBytesLength_13 ?_
    refine lv_icmp_lt (tgt := 55) hx hb dJ8_newBytesLength_15 (by decide) (fun hc => ?_) (fun hc => ?_)
    · have hw := hw.1 hc
      refine lv_iload_n hx hb dJ8_newBytesLength_55 rfl (lv_at hl 0 rfl) ?_
      refine lv_iconst (v := 1) hx hb dJ8_newBytesLength_56 rfl ?_
      refine lv_ishl hx hb dJ8_newBytesLength_57 ?_
      subst hQ
      exact re_i X Y hr hlk () rfl rfl hw (Nat.le_of_ble_eq_true rfl) (Nat.le_of_ble_eq_true rfl) dJ8_newBytesLength_58
    · have hw := hw.2 hc
      exact hw.elim
  · have hw := hw.2 hc
    exact hw.elim
def wpJ8_newBytesFor (mc ms : Nat) (K : (Nat) → (Nat) → (Nat → Int32) → Prop)  (a1 : Int32) : Prop := wpJ8_newBytesLength (fun r1 => (¬ r1 < 0 ∧ ∀ m3 : Nat, r1.toNatClampNeg = m3 → (m3 ≤ 65536 ∧ (0 + 1 ≤ mc ∧ 0 + m3 ≤ ms) ∧ ∀ q2 : Nat, (K q2 m3 (fun _ => 0)))))  a1
abbrev rmJ8_newBytesFor (mc ms : Nat) : Room := { frames := 1, cells := mc, slots := ms, locals := 20 }
theorem hdJ8_newBytesFor : yJ8_newBytesFor.cls ≠ "java/lang/invoke/MethodHandle" ∧ yJ8_newBytesFor.cls ≠ "java/lang/invoke/VarHandle" ∧ (parseMethodDescriptor yJ8_newBytesFor.desc).map (fun d => d.parameters.length) = some 1 := by decide +kernel
set_option maxHeartbeats 4000000 in
theorem mtJ8_newBytesFor {Γ : gT} {l : Launch} {mc ms : Nat} {a1 : Int32} {K : (Nat) → (Nat) → (Nat → Int32) → Prop}  (hw : wpJ8_newBytesFor mc ms K  a1) : cR Γ l yJ8_newBytesFor (ws_ yJ8_newBytesFor cJ8_newBytesFor 1 (some (.array .byte))) (rmJ8_newBytesFor mc ms) E0 [.int a1] [] (fun u : (Nat) × (Nat) × (Nat → Int32) => [[(u.1, .inl (Γ.2.1 3, u.2.1, .inl u.2.2))]]) (fun r u => r = some u.1 ∧ K u.1 u.2.1 u.2.2) := by
  refine cR_of (by decide +kernel) (Nat.le_of_ble_eq_true rfl) ?_
  intro p e s m args below meth c ls A Q hQ X hr hlk hnm hE Y hl
  have hx := X.1
  have hb := X.2.1
  have hl : lv_has ls 1 [(0, .int a1)] := hl
  unfold wpJ8_newBytesFor at hw
  obtain ⟨H, hH⟩ : ∃ H : Heap, H = s.heap := ⟨_, rfl⟩
  obtain ⟨locs, hlo⟩ : ∃ locs : List Loc, locs = [] := ⟨_, rfl⟩
  rw [← hH, ← hlo] at Y
  rw [← hH, ← hlo]
  have hk : 0 ≤ mc ∧ 0 ≤ ms := ⟨Nat.zero_le _, Nat.zero_le _⟩
  refine lv_iload_n hx hb dJ8_newBytesFor_0 rfl (lv_at hl 0 rfl) ?_
  refine cl_SI X Y [] [] rfl rfl rfl E0_bl (fun _ _ _ => trivial) (mtJ8_newBytesLength (Γ := Γ) (l := l) hw) (lw_S q278 q279 q142 q280) hdJ8_newBytesLength ⟨Nat.le_of_ble_eq_true rfl, Nat.le_of_ble_eq_true rfl⟩ rfl hl.1 rfl (Nat.le_of_ble_eq_true rfl) dJ8_newBytesFor_1 hk (fun r1 u H locs hw Y => ?_)
  have Y : Wo Γ A s H locs [] := Y
  obtain ⟨hn0, hw⟩ := hw
  obtain ⟨m3, hN⟩ : ∃ z : Nat, r1.toNatClampNeg = z := ⟨_, rfl⟩
  obtain ⟨hn1, hk, hw⟩ := hw m3 hN
  refine ar_new3 X Y hn0 hN hn1 hk.1 hk.2 dJ8_newBytesFor_4 (fun q2 H Y => ?_)
  have Y : Wo Γ A s H locs [[(q2, .inl (Γ.2.1 3, m3, .inl (fun _ => 0)))]] := Y
  have hw := hw q2
  subst hQ
  exact re_r (r := some q2) X Y hr (by first | exact Or.inl ⟨_, rfl⟩ | exact Or.inr ⟨_, rfl⟩) hlk (q2, m3, (fun _ => 0)) rfl ⟨rfl, hw⟩ (hk.1) (hk.2) dJ8_newBytesFor_6
def wpJ8_putChar (K : (Nat → Int32) → Prop)  (va : Nat) (cp : Nat) (f : Nat → Int32) (a1 : Int32) (a2 : Int32) : Prop := ∃ J1 : Prop, (J1 → (vp_in (a1 <<< (1 &&& 31)) cp ∧ (vp_in ((a1 <<< (1 &&& 31)) + 1) cp ∧ (K (upd (upd f (a1 <<< (1 &&& 31)).toNatClampNeg (vp_nar .byte ((a2 >>> (0 &&& 31)).toInt8.toInt32))) ((a1 <<< (1 &&& 31)) + 1).toNatClampNeg (vp_nar .byte ((a2 >>> (8 &&& 31)).toInt8.toInt32))))))) ∧ (((1 : Int32) = 0 → (∃ J2 : Prop, (J2 → (False)) ∧ ((a1 < 0 → (J2)) ∧ (¬ a1 < 0 → (wpJ8_length (fun r3 => ((a1 < r3 → (J1)) ∧ (¬ a1 < r3 → (J2))))  va cp f))))) ∧ (¬ (1 : Int32) = 0 → (J1)))
abbrev rmJ8_putChar : Room := { frames := 1, cells := 0, slots := 0, locals := 20 }
theorem hdJ8_putChar : yJ8_putChar.cls ≠ "java/lang/invoke/MethodHandle" ∧ yJ8_putChar.cls ≠ "java/lang/invoke/VarHandle" ∧ (parseMethodDescriptor yJ8_putChar.desc).map (fun d => d.parameters.length) = some 3 := by decide +kernel
set_option maxHeartbeats 4000000 in
theorem mtJ8_putChar {Γ : gT} {l : Launch} {va : Nat} {cp : Nat} {f : Nat → Int32} {a1 : Int32} {a2 : Int32} {K : (Nat → Int32) → Prop}  (hw : wpJ8_putChar K  va cp f a1 a2) : cV Γ l yJ8_putChar (ws_ yJ8_putChar cJ8_putChar 3 none) rmJ8_putChar (eN Γ) [.ref va, .int a1, .int a2] [[(va, .inl (Γ.2.1 3, cp, .inl f))]] (fun u : (Nat → Int32) => [[(va, .inl (Γ.2.1 3, cp, .inl u))]]) (fun u => K u) := by
  refine cV_of (by decide +kernel) (Nat.le_of_ble_eq_true rfl) ?_
  intro p e s m args below meth c ls A Q hQ X hr hlk hnm hE Y hl
  have hx := X.1
  have hb := X.2.1
  have hl : lv_has ls 3 [(0, .ref va), (1, .int a1), (2, .int a2)] := hl
  unfold wpJ8_putChar at hw
  obtain ⟨H, hH⟩ : ∃ H : Heap, H = s.heap := ⟨_, rfl⟩
  obtain ⟨locs, hlo⟩ : ∃ locs : List Loc, locs = [] := ⟨_, rfl⟩
  rw [← hH, ← hlo] at Y
  rw [← hH, ← hlo]
  refine st_getI X Y hE 1 rfl (X.2.2.2.2.1 _ q570) dJ8_putChar_0 ?_
  obtain ⟨J1, hwR, hw⟩ := hw
  have hJ1 : ∀ (H : Heap) (locs : List Loc) (ls : Array Slot), J1  → Wo Γ A s H locs [[(va, .inl (Γ.2.1 3, cp, .inl f))]] → lv_has ls 3 [(0, .ref va), (1, .int a1), (2, .int a2)] → W p l e rmJ8_putChar s m args below meth c H locs 0 0 Q (F0 m 28 ls []) := by
    intro  H locs ls hw Y hl
    have hw := hwR  hw
    refine lv_iload_n hx hb dJ8_putChar_28 rfl (lv_at hl 1 rfl) ?_
    refine lv_iconst (v := 1) hx hb dJ8_putChar_29 rfl ?_
    refine lv_ishl hx hb dJ8_putChar_30 ?_
    refine lv_istore_n (lv' := [(1, .int (a1 <<< (1 &&& 31))), (0, .ref va), (2, .int a2)]) hx hb dJ8_putChar_31 rfl hl (by decide) rfl (fun ls hl => ?_)
    refine lv_aload_n hx hb dJ8_putChar_32 rfl (lv_at hl 1 rfl) ?_
    refine lv_iload_n hx hb dJ8_putChar_33 rfl (lv_at hl 0 rfl) ?_
    refine lv_iinc (v := (a1 <<< (1 &&& 31)) + 1) (lv' := [(1, .int ((a1 <<< (1 &&& 31)) + 1)), (0, .ref va), (2, .int a2)]) hx hb dJ8_putChar_34 hl (k := 0) rfl rfl (by decide) rfl (fun ls hl => ?_)
    refine lv_iload_n hx hb dJ8_putChar_37 rfl (lv_at hl 2 rfl) ?_
    refine st_getI X Y hE 2 rfl (X.2.2.2.2.1 _ q572) dJ8_putChar_38 ?_
    refine lv_ishr hx hb dJ8_putChar_41 ?_
    refine lv_i2b hx hb dJ8_putChar_42 rfl ?_
    refine ar_ast3 X Y 0 rfl hw.1 dJ8_putChar_43 (fun H locs Y => ?_)
    have Y : Wo Γ A s H locs [[(va, .inl (Γ.2.1 3, cp, .inl (upd f (a1 <<< (1 &&& 31)).toNatClampNeg (vp_nar .byte ((a2 >>> (0 &&& 31)).toInt8.toInt32)))))]] := Y
    have hw := hw.2
    refine lv_aload_n hx hb dJ8_putChar_44 rfl (lv_at hl 1 rfl) ?_
    refine lv_iload_n hx hb dJ8_putChar_45 rfl (lv_at hl 0 rfl) ?_
    refine lv_iload_n hx hb dJ8_putChar_46 rfl (lv_at hl 2 rfl) ?_
    refine st_getI X Y hE 3 rfl (X.2.2.2.2.1 _ q574) dJ8_putChar_47 ?_
    refine lv_ishr hx hb dJ8_putChar_50 ?_
    refine lv_i2b hx hb dJ8_putChar_51 rfl ?_
    refine ar_ast3 X Y 0 rfl hw.1 dJ8_putChar_52 (fun H locs Y => ?_)
    have Y : Wo Γ A s H locs [[(va, .inl (Γ.2.1 3, cp, .inl (upd (upd f (a1 <<< (1 &&& 31)).toNatClampNeg (vp_nar .byte ((a2 >>> (0 &&& 31)).toInt8.toInt32))) ((a1 <<< (1 &&& 31)) + 1).toNatClampNeg (vp_nar .byte ((a2 >>> (8 &&& 31)).toInt8.toInt32)))))]] := Y
    have hw := hw.2
    subst hQ
    exact re_v X Y hr hlk (upd (upd f (a1 <<< (1 &&& 31)).toNatClampNeg (vp_nar .byte ((a2 >>> (0 &&& 31)).toInt8.toInt32))) ((a1 <<< (1 &&& 31)) + 1).toNatClampNeg (vp_nar .byte ((a2 >>> (8 &&& 31)).toInt8.toInt32))) rfl hw (Nat.le_of_ble_eq_true rfl) (Nat.le_of_ble_eq_true rfl) dJ8_putChar_53
  refine lv_if_ne (tgt := 28) hx hb dJ8_putChar_3 (by decide) (fun hc => ?_) (fun hc => ?_)
  · have hw := hw.2 hc
    exact hJ1  H locs ls hw Y (lv_sub hl [0, 1, 2] rfl)
  · have hw := hw.1 hc
    refine lv_iload_n hx hb dJ8_putChar_6 rfl (lv_at hl 1 rfl) ?_
    obtain ⟨J2, hwR, hw⟩ := hw
    have hJ2 : ∀ (H : Heap) (locs : List Loc) (ls : Array Slot), J2  → Wo Γ A s H locs [[(va, .inl (Γ.2.1 3, cp, .inl f))]] → lv_has ls 3 [] → W p l e rmJ8_putChar s m args below meth c H locs 0 0 Q (F0 m 18 ls []) := by
      intro  H locs ls hw Y hl
      have hw := hwR  hw
      exact hw.elim
    refine lv_if_lt (tgt := 18) hx hb dJ8_putChar_7 (by decide) (fun hc => ?_) (fun hc => ?_)
    · have hw := hw.1 hc
      exact hJ2  H locs ls hw Y (lv_sub hl [] rfl)
    · have hw := hw.2 hc
      refine lv_iload_n hx hb dJ8_putChar_10 rfl (lv_at hl 1 rfl) ?_
      refine lv_aload_n hx hb dJ8_putChar_11 rfl (lv_at hl 0 rfl) ?_
      refine cl_SI X Y [0] [] rfl rfl rfl E0_bl (fun _ _ _ => trivial) (mtJ8_length (Γ := Γ) (l := l) hw) (lw_S q553 q554 q142 q555) hdJ8_length ⟨Nat.le_of_ble_eq_true rfl, Nat.le_of_ble_eq_true rfl⟩ rfl hl.1 rfl (Nat.le_of_ble_eq_true rfl) dJ8_putChar_12 ⟨Nat.le_of_ble_eq_true rfl, Nat.le_of_ble_eq_true rfl⟩ (fun r3 u H locs hw Y => ?_)
      have Y : Wo Γ A s H locs [[(va, .inl (Γ.2.1 3, cp, .inl f))]] := Y
      refine lv_icmp_lt (tgt := 28) hx hb dJ8_putChar_15 (by decide) (fun hc => ?_) (fun hc => ?_)
      · have hw := hw.1 hc
        exact hJ1  H locs ls hw Y (lv_sub hl [0, 1, 2] rfl)
      · have hw := hw.2 hc
        exact hJ2  H locs ls hw Y (lv_sub hl [] rfl)
def wpJ8_getChar (K : (Int32) → Prop)  (va : Nat) (cp : Nat) (f : Nat → Int32) (a1 : Int32) : Prop := ∃ J1 : Prop, (J1 → (vp_in (a1 <<< (1 &&& 31)) cp ∧ (vp_in ((a1 <<< (1 &&& 31)) + 1) cp ∧ (narrow .char (.int ((((((f (a1 <<< (1 &&& 31)).toNatClampNeg) &&& 255) <<< (0 &&& 31)) ||| (((f ((a1 <<< (1 &&& 31)) + 1).toNatClampNeg) &&& 255) <<< (8 &&& 31))).toUInt32 % 65536).toInt32)) = .int ((((((f (a1 <<< (1 &&& 31)).toNatClampNeg) &&& 255) <<< (0 &&& 31)) ||| (((f ((a1 <<< (1 &&& 31)) + 1).toNatClampNeg) &&& 255) <<< (8 &&& 31))).toUInt32 % 65536).toInt32) ∧ K ((((((f (a1 <<< (1 &&& 31)).toNatClampNeg) &&& 255) <<< (0 &&& 31)) ||| (((f ((a1 <<< (1 &&& 31)) + 1).toNatClampNeg) &&& 255) <<< (8 &&& 31))).toUInt32 % 65536).toInt32))))) ∧ (((1 : Int32) = 0 → (∃ J2 : Prop, (J2 → (False)) ∧ ((a1 < 0 → (J2)) ∧ (¬ a1 < 0 → (wpJ8_length (fun r3 => ((a1 < r3 → (J1)) ∧ (¬ a1 < r3 → (J2))))  va cp f))))) ∧ (¬ (1 : Int32) = 0 → (J1)))
abbrev rmJ8_getChar : Room := { frames := 1, cells := 0, slots := 0, locals := 20 }
theorem hdJ8_getChar : yJ8_getChar.cls ≠ "java/lang/invoke/MethodHandle" ∧ yJ8_getChar.cls ≠ "java/lang/invoke/VarHandle" ∧ (parseMethodDescriptor yJ8_getChar.desc).map (fun d => d.parameters.length) = some 2 := by decide +kernel
set_option maxHeartbeats 4000000 in
theorem mtJ8_getChar {Γ : gT} {l : Launch} {va : Nat} {cp : Nat} {f : Nat → Int32} {a1 : Int32} {K : (Int32) → Prop}  (hw : wpJ8_getChar K  va cp f a1) : cI Γ l yJ8_getChar (ws_ yJ8_getChar cJ8_getChar 2 (some .char)) rmJ8_getChar (eN Γ) [.ref va, .int a1] [[(va, .inl (Γ.2.1 3, cp, .inl f))]] (fun u : Unit => [[(va, .inl (Γ.2.1 3, cp, .inl f))]]) (fun r u => K r ) := by
  refine cI_of (by decide +kernel) (Nat.le_of_ble_eq_true rfl) ?_
  intro p e s m args below meth c ls A Q hQ X hr hlk hnm hE Y hl
  have hx := X.1
  have hb := X.2.1
  have hl : lv_has ls 2 [(0, .ref va), (1, .int a1)] := hl
  unfold wpJ8_getChar at hw
  obtain ⟨H, hH⟩ : ∃ H : Heap, H = s.heap := ⟨_, rfl⟩
  obtain ⟨locs, hlo⟩ : ∃ locs : List Loc, locs = [] := ⟨_, rfl⟩
  rw [← hH, ← hlo] at Y
  rw [← hH, ← hlo]
  refine st_getI X Y hE 1 rfl (X.2.2.2.2.1 _ q570) dJ8_getChar_0 ?_
  obtain ⟨J1, hwR, hw⟩ := hw
  have hJ1 : ∀ (H : Heap) (locs : List Loc) (ls : Array Slot), J1  → Wo Γ A s H locs [[(va, .inl (Γ.2.1 3, cp, .inl f))]] → lv_has ls 2 [(0, .ref va), (1, .int a1)] → W p l e rmJ8_getChar s m args below meth c H locs 0 0 Q (F0 m 28 ls []) := by
    intro  H locs ls hw Y hl
    have hw := hwR  hw
    refine lv_iload_n hx hb dJ8_getChar_28 rfl (lv_at hl 1 rfl) ?_
    refine lv_iconst (v := 1) hx hb dJ8_getChar_29 rfl ?_
    refine lv_ishl hx hb dJ8_getChar_30 ?_
    refine lv_istore_n (lv' := [(1, .int (a1 <<< (1 &&& 31))), (0, .ref va)]) hx hb dJ8_getChar_31 rfl hl (by decide) rfl (fun ls hl => ?_)
    refine lv_aload_n hx hb dJ8_getChar_32 rfl (lv_at hl 1 rfl) ?_
    refine lv_iload_n hx hb dJ8_getChar_33 rfl (lv_at hl 0 rfl) ?_
    refine lv_iinc (v := (a1 <<< (1 &&& 31)) + 1) (lv' := [(1, .int ((a1 <<< (1 &&& 31)) + 1)), (0, .ref va)]) hx hb dJ8_getChar_34 hl (k := 0) rfl rfl (by decide) rfl (fun ls hl => ?_)
    refine ar_ald3 X Y 0 rfl hw.1 dJ8_getChar_37 ?_
    have hw := hw.2
    refine lv_sipush (v := 255) hx hb dJ8_getChar_38 rfl ?_
    refine lv_iand hx hb dJ8_getChar_41 ?_
    refine st_getI X Y hE 2 rfl (X.2.2.2.2.1 _ q572) dJ8_getChar_42 ?_
    refine lv_ishl hx hb dJ8_getChar_45 ?_
    refine lv_aload_n hx hb dJ8_getChar_46 rfl (lv_at hl 1 rfl) ?_
    refine lv_iload_n hx hb dJ8_getChar_47 rfl (lv_at hl 0 rfl) ?_
    refine ar_ald3 X Y 0 rfl hw.1 dJ8_getChar_48 ?_
    have hw := hw.2
    refine lv_sipush (v := 255) hx hb dJ8_getChar_49 rfl ?_
    refine lv_iand hx hb dJ8_getChar_52 ?_
    refine st_getI X Y hE 3 rfl (X.2.2.2.2.1 _ q574) dJ8_getChar_53 ?_
    refine lv_ishl hx hb dJ8_getChar_56 ?_
    refine lv_ior hx hb dJ8_getChar_57 ?_
    refine lv_i2c hx hb dJ8_getChar_58 rfl ?_
    subst hQ
    exact re_i X Y hr hlk () rfl hw.1 hw.2 (Nat.le_of_ble_eq_true rfl) (Nat.le_of_ble_eq_true rfl) dJ8_getChar_59
  refine lv_if_ne (tgt := 28) hx hb dJ8_getChar_3 (by decide) (fun hc => ?_) (fun hc => ?_)
  · have hw := hw.2 hc
    exact hJ1  H locs ls hw Y (lv_sub hl [0, 1] rfl)
  · have hw := hw.1 hc
    refine lv_iload_n hx hb dJ8_getChar_6 rfl (lv_at hl 1 rfl) ?_
    obtain ⟨J2, hwR, hw⟩ := hw
    have hJ2 : ∀ (H : Heap) (locs : List Loc) (ls : Array Slot), J2  → Wo Γ A s H locs [[(va, .inl (Γ.2.1 3, cp, .inl f))]] → lv_has ls 2 [] → W p l e rmJ8_getChar s m args below meth c H locs 0 0 Q (F0 m 18 ls []) := by
      intro  H locs ls hw Y hl
      have hw := hwR  hw
      exact hw.elim
    refine lv_if_lt (tgt := 18) hx hb dJ8_getChar_7 (by decide) (fun hc => ?_) (fun hc => ?_)
    · have hw := hw.1 hc
      exact hJ2  H locs ls hw Y (lv_sub hl [] rfl)
    · have hw := hw.2 hc
      refine lv_iload_n hx hb dJ8_getChar_10 rfl (lv_at hl 1 rfl) ?_
      refine lv_aload_n hx hb dJ8_getChar_11 rfl (lv_at hl 0 rfl) ?_
      refine cl_SI X Y [0] [] rfl rfl rfl E0_bl (fun _ _ _ => trivial) (mtJ8_length (Γ := Γ) (l := l) hw) (lw_S q553 q554 q142 q555) hdJ8_length ⟨Nat.le_of_ble_eq_true rfl, Nat.le_of_ble_eq_true rfl⟩ rfl hl.1 rfl (Nat.le_of_ble_eq_true rfl) dJ8_getChar_12 ⟨Nat.le_of_ble_eq_true rfl, Nat.le_of_ble_eq_true rfl⟩ (fun r3 u H locs hw Y => ?_)
      have Y : Wo Γ A s H locs [[(va, .inl (Γ.2.1 3, cp, .inl f))]] := Y
      refine lv_icmp_lt (tgt := 28) hx hb dJ8_getChar_15 (by decide) (fun hc => ?_) (fun hc => ?_)
      · have hw := hw.1 hc
        exact hJ1  H locs ls hw Y (lv_sub hl [0, 1] rfl)
      · have hw := hw.2 hc
        exact hJ2  H locs ls hw Y (lv_sub hl [] rfl)
def wpJ8_checkIndex (K : Prop)  (va : Nat) (cp : Nat) (f : Nat → Int32) (a1 : Int32) : Prop := wpJ8_length (fun r1 => (wpJ7_checkIndex (K)  a1 r1))  va cp f
abbrev rmJ8_checkIndex : Room := { frames := 2, cells := 0, slots := 0, locals := 43 }
theorem hdJ8_checkIndex : yJ8_checkIndex.cls ≠ "java/lang/invoke/MethodHandle" ∧ yJ8_checkIndex.cls ≠ "java/lang/invoke/VarHandle" ∧ (parseMethodDescriptor yJ8_checkIndex.desc).map (fun d => d.parameters.length) = some 2 := by decide +kernel
set_option maxHeartbeats 4000000 in
theorem mtJ8_checkIndex {Γ : gT} {l : Launch} {va : Nat} {cp : Nat} {f : Nat → Int32} {a1 : Int32} {K : Prop}  (hw : wpJ8_checkIndex K  va cp f a1) : cV Γ l yJ8_checkIndex (ws_ yJ8_checkIndex cJ8_checkIndex 2 none) rmJ8_checkIndex (eN Γ) [.int a1, .ref va] [[(va, .inl (Γ.2.1 3, cp, .inl f))]] (fun u : Unit => [[(va, .inl (Γ.2.1 3, cp, .inl f))]]) (fun _ => K) := by
  refine cV_of (by decide +kernel) (Nat.le_of_ble_eq_true rfl) ?_
  intro p e s m args below meth c ls A Q hQ X hr hlk hnm hE Y hl
  have hx := X.1
  have hb := X.2.1
  have hl : lv_has ls 2 [(0, .int a1), (1, .ref va)] := hl
  unfold wpJ8_checkIndex at hw
  obtain ⟨H, hH⟩ : ∃ H : Heap, H = s.heap := ⟨_, rfl⟩
  obtain ⟨locs, hlo⟩ : ∃ locs : List Loc, locs = [] := ⟨_, rfl⟩
  rw [← hH, ← hlo] at Y
  rw [← hH, ← hlo]
  refine lv_iload_n hx hb dJ8_checkIndex_0 rfl (lv_at hl 0 rfl) ?_
  refine lv_aload_n hx hb dJ8_checkIndex_1 rfl (lv_at hl 1 rfl) ?_
  refine cl_SI X Y [0] [] rfl rfl rfl E0_bl (fun _ _ _ => trivial) (mtJ8_length (Γ := Γ) (l := l) hw) (lw_S q553 q554 q142 q555) hdJ8_length ⟨Nat.le_of_ble_eq_true rfl, Nat.le_of_ble_eq_true rfl⟩ rfl hl.1 rfl (Nat.le_of_ble_eq_true rfl) dJ8_checkIndex_2 ⟨Nat.le_of_ble_eq_true rfl, Nat.le_of_ble_eq_true rfl⟩ (fun r1 u H locs hw Y => ?_)
  have Y : Wo Γ A s H locs [[(va, .inl (Γ.2.1 3, cp, .inl f))]] := Y
  refine cl_SV X Y [] [0] rfl rfl rfl eN_bl (fun U hU hW => ((eN_tr.at X hE Y [] [0] rfl rfl) U hU hW)) (mtJ7_checkIndex (Γ := Γ) (l := l) hw) (lw_S q1465 q1454 q141 q1455) hdJ7_checkIndex ⟨Nat.le_of_ble_eq_true rfl, Nat.le_of_ble_eq_true rfl⟩ rfl hl.1 rfl (Nat.le_of_ble_eq_true rfl) dJ8_checkIndex_5 ⟨Nat.le_of_ble_eq_true rfl, Nat.le_of_ble_eq_true rfl⟩ (fun  u H locs hw Y => ?_)
  have Y : Wo Γ A s H locs [[(va, .inl (Γ.2.1 3, cp, .inl f))]] := Y
  subst hQ
  exact re_v X Y hr hlk () rfl hw (Nat.le_of_ble_eq_true rfl) (Nat.le_of_ble_eq_true rfl) dJ8_checkIndex_8
def wpJ8_charAt (K : (Int32) → Prop)  (va : Nat) (cp : Nat) (f : Nat → Int32) (a1 : Int32) : Prop := wpJ8_checkIndex (wpJ8_getChar (fun r1 => (narrow .char (.int r1) = .int r1 ∧ K r1))  va cp f a1)  va cp f a1
abbrev rmJ8_charAt : Room := { frames := 3, cells := 0, slots := 0, locals := 64 }
theorem hdJ8_charAt : yJ8_charAt.cls ≠ "java/lang/invoke/MethodHandle" ∧ yJ8_charAt.cls ≠ "java/lang/invoke/VarHandle" ∧ (parseMethodDescriptor yJ8_charAt.desc).map (fun d => d.parameters.length) = some 2 := by decide +kernel
set_option maxHeartbeats 4000000 in
theorem mtJ8_charAt {Γ : gT} {l : Launch} {va : Nat} {cp : Nat} {f : Nat → Int32} {a1 : Int32} {K : (Int32) → Prop}  (hw : wpJ8_charAt K  va cp f a1) : cI Γ l yJ8_charAt (ws_ yJ8_charAt cJ8_charAt 2 (some .char)) rmJ8_charAt (eN Γ) [.ref va, .int a1] [[(va, .inl (Γ.2.1 3, cp, .inl f))]] (fun u : Unit => [[(va, .inl (Γ.2.1 3, cp, .inl f))]]) (fun r u => K r ) := by
  refine cI_of (by decide +kernel) (Nat.le_of_ble_eq_true rfl) ?_
  intro p e s m args below meth c ls A Q hQ X hr hlk hnm hE Y hl
  have hx := X.1
  have hb := X.2.1
  have hl : lv_has ls 2 [(0, .ref va), (1, .int a1)] := hl
  unfold wpJ8_charAt at hw
  obtain ⟨H, hH⟩ : ∃ H : Heap, H = s.heap := ⟨_, rfl⟩
  obtain ⟨locs, hlo⟩ : ∃ locs : List Loc, locs = [] := ⟨_, rfl⟩
  rw [← hH, ← hlo] at Y
  rw [← hH, ← hlo]
  refine lv_iload_n hx hb dJ8_charAt_0 rfl (lv_at hl 1 rfl) ?_
  refine lv_aload_n hx hb dJ8_charAt_1 rfl (lv_at hl 0 rfl) ?_
  refine cl_SV X Y [0] [] rfl rfl rfl eN_bl (fun U hU hW => ((eN_tr.at X hE Y [0] [] rfl rfl) U hU hW)) (mtJ8_checkIndex (Γ := Γ) (l := l) hw) (lw_S q1462 q1463 q142 q1464) hdJ8_checkIndex ⟨Nat.le_of_ble_eq_true rfl, Nat.le_of_ble_eq_true rfl⟩ rfl hl.1 rfl (Nat.le_of_ble_eq_true rfl) dJ8_charAt_2 ⟨Nat.le_of_ble_eq_true rfl, Nat.le_of_ble_eq_true rfl⟩ (fun  u H locs hw Y => ?_)
  have Y : Wo Γ A s H locs [[(va, .inl (Γ.2.1 3, cp, .inl f))]] := Y
  refine lv_aload_n hx hb dJ8_charAt_5 rfl (lv_at hl 0 rfl) ?_
  refine lv_iload_n hx hb dJ8_charAt_6 rfl (lv_at hl 1 rfl) ?_
  refine cl_SI X Y [0] [] rfl rfl rfl eN_bl (fun U hU hW => ((eN_tr.at X hE Y [0] [] rfl rfl) U hU hW)) (mtJ8_getChar (Γ := Γ) (l := l) hw) (lw_S q567 q568 q142 q569) hdJ8_getChar ⟨Nat.le_of_ble_eq_true rfl, Nat.le_of_ble_eq_true rfl⟩ rfl hl.1 rfl (Nat.le_of_ble_eq_true rfl) dJ8_charAt_7 ⟨Nat.le_of_ble_eq_true rfl, Nat.le_of_ble_eq_true rfl⟩ (fun r1 u H locs hw Y => ?_)
  have Y : Wo Γ A s H locs [[(va, .inl (Γ.2.1 3, cp, .inl f))]] := Y
  subst hQ
  exact re_i X Y hr hlk () rfl hw.1 hw.2 (Nat.le_of_ble_eq_true rfl) (Nat.le_of_ble_eq_true rfl) dJ8_charAt_10
def wpJ8_putCharSB (K : (Nat → Int32) → Prop)  (va : Nat) (cp : Nat) (f : Nat → Int32) (a1 : Int32) (a2 : Int32) : Prop := wpJ8_checkIndex (wpJ8_putChar (fun z1 => (K z1))  va cp f a1 a2)  va cp f a1
abbrev rmJ8_putCharSB : Room := { frames := 3, cells := 0, slots := 0, locals := 64 }
theorem hdJ8_putCharSB : yJ8_putCharSB.cls ≠ "java/lang/invoke/MethodHandle" ∧ yJ8_putCharSB.cls ≠ "java/lang/invoke/VarHandle" ∧ (parseMethodDescriptor yJ8_putCharSB.desc).map (fun d => d.parameters.length) = some 3 := by decide +kernel
set_option maxHeartbeats 4000000 in
theorem mtJ8_putCharSB {Γ : gT} {l : Launch} {va : Nat} {cp : Nat} {f : Nat → Int32} {a1 : Int32} {a2 : Int32} {K : (Nat → Int32) → Prop}  (hw : wpJ8_putCharSB K  va cp f a1 a2) : cV Γ l yJ8_putCharSB (ws_ yJ8_putCharSB cJ8_putCharSB 3 none) rmJ8_putCharSB (eN Γ) [.ref va, .int a1, .int a2] [[(va, .inl (Γ.2.1 3, cp, .inl f))]] (fun u : (Nat → Int32) => [[(va, .inl (Γ.2.1 3, cp, .inl u))]]) (fun u => K u) := by
  refine cV_of (by decide +kernel) (Nat.le_of_ble_eq_true rfl) ?_
  intro p e s m args below meth c ls A Q hQ X hr hlk hnm hE Y hl
  have hx := X.1
  have hb := X.2.1
  have hl : lv_has ls 3 [(0, .ref va), (1, .int a1), (2, .int a2)] := hl
  unfold wpJ8_putCharSB at hw
  obtain ⟨H, hH⟩ : ∃ H : Heap, H = s.heap := ⟨_, rfl⟩
  obtain ⟨locs, hlo⟩ : ∃ locs : List Loc, locs = [] := ⟨_, rfl⟩
  rw [← hH, ← hlo] at Y
  rw [← hH, ← hlo]
  refine lv_iload_n hx hb dJ8_putCharSB_0 rfl (lv_at hl 1 rfl) ?_
  refine lv_aload_n hx hb dJ8_putCharSB_1 rfl (lv_at hl 0 rfl) ?_
  refine cl_SV X Y [0] [] rfl rfl rfl eN_bl (fun U hU hW => ((eN_tr.at X hE Y [0] [] rfl rfl) U hU hW)) (mtJ8_checkIndex (Γ := Γ) (l := l) hw) (lw_S q1462 q1463 q142 q1464) hdJ8_checkIndex ⟨Nat.le_of_ble_eq_true rfl, Nat.le_of_ble_eq_true rfl⟩ rfl hl.1 rfl (Nat.le_of_ble_eq_true rfl) dJ8_putCharSB_2 ⟨Nat.le_of_ble_eq_true rfl, Nat.le_of_ble_eq_true rfl⟩ (fun  u H locs hw Y => ?_)
  have Y : Wo Γ A s H locs [[(va, .inl (Γ.2.1 3, cp, .inl f))]] := Y
  refine lv_aload_n hx hb dJ8_putCharSB_5 rfl (lv_at hl 0 rfl) ?_
  refine lv_iload_n hx hb dJ8_putCharSB_6 rfl (lv_at hl 1 rfl) ?_
  refine lv_iload_n hx hb dJ8_putCharSB_7 rfl (lv_at hl 2 rfl) ?_
  refine cl_SV X Y [0] [] rfl rfl rfl eN_bl (fun U hU hW => ((eN_tr.at X hE Y [0] [] rfl rfl) U hU hW)) (mtJ8_putChar (Γ := Γ) (l := l) hw) (lw_S q789 q790 q142 q791) hdJ8_putChar ⟨Nat.le_of_ble_eq_true rfl, Nat.le_of_ble_eq_true rfl⟩ rfl hl.1 rfl (Nat.le_of_ble_eq_true rfl) dJ8_putCharSB_8 ⟨Nat.le_of_ble_eq_true rfl, Nat.le_of_ble_eq_true rfl⟩ (fun  u H locs hw Y => ?_)
  obtain ⟨z1, rfl⟩ : ∃ z, z = u := ⟨_, rfl⟩
  have Y : Wo Γ A s H locs [[(va, .inl (Γ.2.1 3, cp, .inl z1))]] := Y
  subst hQ
  exact re_v X Y hr hlk z1 rfl hw (Nat.le_of_ble_eq_true rfl) (Nat.le_of_ble_eq_true rfl) dJ8_putCharSB_11
def wpJ19_getChar (K : (Int32) → Prop)  (va : Nat) (cp : Nat) (f : Nat → Int32) (a1 : Int32) : Prop := vp_in a1 cp ∧ (narrow .char (.int ((((f a1.toNatClampNeg) &&& 255).toUInt32 % 65536).toInt32)) = .int ((((f a1.toNatClampNeg) &&& 255).toUInt32 % 65536).toInt32) ∧ K ((((f a1.toNatClampNeg) &&& 255).toUInt32 % 65536).toInt32))
abbrev rmJ19_getChar : Room := { frames := 0, cells := 0, slots := 0, locals := 0 }
theorem hdJ19_getChar : yJ19_getChar.cls ≠ "java/lang/invoke/MethodHandle" ∧ yJ19_getChar.cls ≠ "java/lang/invoke/VarHandle" ∧ (parseMethodDescriptor yJ19_getChar.desc).map (fun d => d.parameters.length) = some 2 := by decide +kernel
set_option maxHeartbeats 4000000 in
theorem mtJ19_getChar {Γ : gT} {l : Launch} {va : Nat} {cp : Nat} {f : Nat → Int32} {a1 : Int32} {K : (Int32) → Prop}  (hw : wpJ19_getChar K  va cp f a1) : cI Γ l yJ19_getChar (ws_ yJ19_getChar cJ19_getChar 2 (some .char)) rmJ19_getChar (eN Γ) [.ref va, .int a1] [[(va, .inl (Γ.2.1 3, cp, .inl f))]] (fun u : Unit => [[(va, .inl (Γ.2.1 3, cp, .inl f))]]) (fun r u => K r ) := by
  refine cI_of (by decide +kernel) (Nat.le_of_ble_eq_true rfl) ?_
  intro p e s m args below meth c ls A Q hQ X hr hlk hnm hE Y hl
  have hx := X.1
  have hb := X.2.1
  have hl : lv_has ls 2 [(0, .ref va), (1, .int a1)] := hl
  unfold wpJ19_getChar at hw
  obtain ⟨H, hH⟩ : ∃ H : Heap, H = s.heap := ⟨_, rfl⟩
  obtain ⟨locs, hlo⟩ : ∃ locs : List Loc, locs = [] := ⟨_, rfl⟩
  rw [← hH, ← hlo] at Y
  rw [← hH, ← hlo]
  refine lv_aload_n hx hb dJ19_getChar_0 rfl (lv_at hl 0 rfl) ?_
  refine lv_iload_n hx hb dJ19_getChar_1 rfl (lv_at hl 1 rfl) ?_
  refine ar_ald3 X Y 0 rfl hw.1 dJ19_getChar_2 ?_
  have hw := hw.2
  refine lv_sipush (v := 255) hx hb dJ19_getChar_3 rfl ?_
  refine lv_iand hx hb dJ19_getChar_6 ?_
  refine lv_i2c hx hb dJ19_getChar_7 rfl ?_
  subst hQ
  exact re_i X Y hr hlk () rfl hw.1 hw.2 (Nat.le_of_ble_eq_true rfl) (Nat.le_of_ble_eq_true rfl) dJ19_getChar_8
def wpJ8_checkBoundsOffCount (K : Prop)  (va : Nat) (cp : Nat) (f : Nat → Int32) (a1 : Int32) (a2 : Int32) : Prop := wpJ8_length (fun r1 => (wpJ7_checkBoundsOffCount (fun r2 => (K))  a1 a2 r1))  va cp f
abbrev rmJ8_checkBoundsOffCount : Room := { frames := 2, cells := 0, slots := 0, locals := 45 }
theorem hdJ8_checkBoundsOffCount : yJ8_checkBoundsOffCount.cls ≠ "java/lang/invoke/MethodHandle" ∧ yJ8_checkBoundsOffCount.cls ≠ "java/lang/invoke/VarHandle" ∧ (parseMethodDescriptor yJ8_checkBoundsOffCount.desc).map (fun d => d.parameters.length) = some 3 := by decide +kernel
set_option maxHeartbeats 4000000 in
theorem mtJ8_checkBoundsOffCount {Γ : gT} {l : Launch} {va : Nat} {cp : Nat} {f : Nat → Int32} {a1 : Int32} {a2 : Int32} {K : Prop}  (hw : wpJ8_checkBoundsOffCount K  va cp f a1 a2) : cV Γ l yJ8_checkBoundsOffCount (ws_ yJ8_checkBoundsOffCount cJ8_checkBoundsOffCount 3 none) rmJ8_checkBoundsOffCount (eN Γ) [.int a1, .int a2, .ref va] [[(va, .inl (Γ.2.1 3, cp, .inl f))]] (fun u : Unit => [[(va, .inl (Γ.2.1 3, cp, .inl f))]]) (fun _ => K) := by
  refine cV_of (by decide +kernel) (Nat.le_of_ble_eq_true rfl) ?_
  intro p e s m args below meth c ls A Q hQ X hr hlk hnm hE Y hl
  have hx := X.1
  have hb := X.2.1
  have hl : lv_has ls 3 [(0, .int a1), (1, .int a2), (2, .ref va)] := hl
  unfold wpJ8_checkBoundsOffCount at hw
  obtain ⟨H, hH⟩ : ∃ H : Heap, H = s.heap := ⟨_, rfl⟩
  obtain ⟨locs, hlo⟩ : ∃ locs : List Loc, locs = [] := ⟨_, rfl⟩
  rw [← hH, ← hlo] at Y
  rw [← hH, ← hlo]
  refine lv_iload_n hx hb dJ8_checkBoundsOffCount_0 rfl (lv_at hl 0 rfl) ?_
  refine lv_iload_n hx hb dJ8_checkBoundsOffCount_1 rfl (lv_at hl 1 rfl) ?_
  refine lv_aload_n hx hb dJ8_checkBoundsOffCount_2 rfl (lv_at hl 2 rfl) ?_
  refine cl_SI X Y [0] [] rfl rfl rfl E0_bl (fun _ _ _ => trivial) (mtJ8_length (Γ := Γ) (l := l) hw) (lw_S q553 q554 q142 q555) hdJ8_length ⟨Nat.le_of_ble_eq_true rfl, Nat.le_of_ble_eq_true rfl⟩ rfl hl.1 rfl (Nat.le_of_ble_eq_true rfl) dJ8_checkBoundsOffCount_3 ⟨Nat.le_of_ble_eq_true rfl, Nat.le_of_ble_eq_true rfl⟩ (fun r1 u H locs hw Y => ?_)
  have Y : Wo Γ A s H locs [[(va, .inl (Γ.2.1 3, cp, .inl f))]] := Y
  refine cl_SI X Y [] [0] rfl rfl rfl eN_bl (fun U hU hW => ((eN_tr.at X hE Y [] [0] rfl rfl) U hU hW)) (mtJ7_checkBoundsOffCount (Γ := Γ) (l := l) hw) (lw_S q831 q832 q141 q833) hdJ7_checkBoundsOffCount ⟨Nat.le_of_ble_eq_true rfl, Nat.le_of_ble_eq_true rfl⟩ rfl hl.1 rfl (Nat.le_of_ble_eq_true rfl) dJ8_checkBoundsOffCount_6 ⟨Nat.le_of_ble_eq_true rfl, Nat.le_of_ble_eq_true rfl⟩ (fun r2 u H locs hw Y => ?_)
  have Y : Wo Γ A s H locs [[(va, .inl (Γ.2.1 3, cp, .inl f))]] := Y
  refine lv_pop hx hb dJ8_checkBoundsOffCount_9 rfl ?_
  subst hQ
  exact re_v X Y hr hlk () rfl hw (Nat.le_of_ble_eq_true rfl) (Nat.le_of_ble_eq_true rfl) dJ8_checkBoundsOffCount_10
def wpJ8_inflate (K : (Nat → Int32) → Prop)  (va : Nat) (na : Nat) (f : Nat → Int32) (vb : Nat) (nb : Nat) (h : Nat → Int32) (a1 : Int32) (a2 : Int32) (a3 : Int32) : Prop := wpJ8_checkBoundsOffCount (∃ I1 : Nat → (Int32) → (Int32) → (Int32) → (Nat → Int32) → Prop, (∃ n, I1 n a1 a2 0 h) ∧ ∀ (n2 : Nat) (x3 : Int32) (x4 : Int32) (x5 : Int32) (z6 : Nat → Int32), I1 n2 x3 x4 x5 z6 → ((a3 ≤ x5 → (K z6)) ∧ (¬ a3 ≤ x5 → (vp_in x3 na ∧ (wpJ8_putChar (fun z7 => (∃ n8, n8 < n2 ∧ I1 n8 (x3 + 1) (x4 + 1) (x5 + 1) z7))  vb nb z6 x4 ((f x3.toNatClampNeg) &&& 255))))))  vb nb h a2 a3
abbrev rmJ8_inflate : Room := { frames := 3, cells := 0, slots := 0, locals := 67 }
theorem hdJ8_inflate : yJ8_inflate.cls ≠ "java/lang/invoke/MethodHandle" ∧ yJ8_inflate.cls ≠ "java/lang/invoke/VarHandle" ∧ (parseMethodDescriptor yJ8_inflate.desc).map (fun d => d.parameters.length) = some 5 := by decide +kernel
set_option maxHeartbeats 4000000 in
theorem mtJ8_inflate {Γ : gT} {l : Launch} {va : Nat} {na : Nat} {f : Nat → Int32} {vb : Nat} {nb : Nat} {h : Nat → Int32} {a1 : Int32} {a2 : Int32} {a3 : Int32} {K : (Nat → Int32) → Prop}  (hw : wpJ8_inflate K  va na f vb nb h a1 a2 a3) : cV Γ l yJ8_inflate (ws_ yJ8_inflate cJ8_inflate 6 none) rmJ8_inflate (eN Γ) [.ref va, .int a1, .ref vb, .int a2, .int a3] [[(va, .inl (Γ.2.1 3, na, .inl f))], [(vb, .inl (Γ.2.1 3, nb, .inl h))]] (fun u : (Nat → Int32) => [[(va, .inl (Γ.2.1 3, na, .inl f))], [(vb, .inl (Γ.2.1 3, nb, .inl u))]]) (fun u => K u) := by
  refine cV_of (by decide +kernel) (Nat.le_of_ble_eq_true rfl) ?_
  intro p e s m args below meth c ls A Q hQ X hr hlk hnm hE Y hl
  have hx := X.1
  have hb := X.2.1
  have hl : lv_has ls 6 [(0, .ref va), (1, .int a1), (2, .ref vb), (3, .int a2), (4, .int a3)] := hl
  unfold wpJ8_inflate at hw
  obtain ⟨H, hH⟩ : ∃ H : Heap, H = s.heap := ⟨_, rfl⟩
  obtain ⟨locs, hlo⟩ : ∃ locs : List Loc, locs = [] := ⟨_, rfl⟩
  rw [← hH, ← hlo] at Y
  rw [← hH, ← hlo]
  refine lv_iload_n hx hb dJ8_inflate_0 rfl (lv_at hl 3 rfl) ?_
  refine lv_iload hx hb dJ8_inflate_1 (lv_at hl 4 rfl) ?_
  refine lv_aload_n hx hb dJ8_inflate_3 rfl (lv_at hl 2 rfl) ?_
  refine cl_SV X Y [1] [0] rfl rfl rfl eN_bl (fun U hU hW => ((eN_tr.at X hE Y [1] [0] rfl rfl) U hU hW)) (mtJ8_checkBoundsOffCount (Γ := Γ) (l := l) hw) (lw_S q828 q829 q142 q830) hdJ8_checkBoundsOffCount ⟨Nat.le_of_ble_eq_true rfl, Nat.le_of_ble_eq_true rfl⟩ rfl hl.1 rfl (Nat.le_of_ble_eq_true rfl) dJ8_inflate_4 ⟨Nat.le_of_ble_eq_true rfl, Nat.le_of_ble_eq_true rfl⟩ (fun  u H locs hw Y => ?_)
  have Y : Wo Γ A s H locs [[(vb, .inl (Γ.2.1 3, nb, .inl h))], [(va, .inl (Γ.2.1 3, na, .inl f))]] := Y
  refine lv_iconst (v := 0) hx hb dJ8_inflate_7 rfl ?_
  refine lv_istore (lv' := [(5, .int 0), (0, .ref va), (1, .int a1), (2, .ref vb), (3, .int a2), (4, .int a3)]) hx hb dJ8_inflate_8 hl (by decide) rfl (fun ls hl => ?_)
  obtain ⟨I1, hw0, hwI⟩ := hw
  have hI1 : ∀ (n2 : Nat) (x3 : Int32) (x4 : Int32) (x5 : Int32) (z6 : Nat → Int32) (H : Heap) (locs : List Loc) (ls : Array Slot), I1 n2 x3 x4 x5 z6 → Wo Γ A s H locs [[(vb, .inl (Γ.2.1 3, nb, .inl z6))], [(va, .inl (Γ.2.1 3, na, .inl f))]] → lv_has ls 6 [(0, .ref va), (1, .int x3), (2, .ref vb), (3, .int x4), (4, .int a3), (5, .int x5)] → W p l e rmJ8_inflate s m args below meth c H locs 0 0 Q (F0 m 10 ls []) := by
    intro n2
    induction n2 using Nat.strongRecOn with
    | ind n2 ihn2 =>
      intro x3 x4 x5 z6 H locs ls hw Y hl
      have hw := hwI n2 x3 x4 x5 z6 hw
      refine lv_iload hx hb dJ8_inflate_10 (lv_at hl 5 rfl) ?_
      refine lv_iload hx hb dJ8_inflate_12 (lv_at hl 4 rfl) ?_
      refine lv_icmp_ge (tgt := 41) hx hb dJ8_inflate_14 (by decide) (fun hc => ?_) (fun hc => ?_)
      · have hw := hw.1 hc
        have Y : Wo Γ A s H locs [[(va, .inl (Γ.2.1 3, na, .inl f))], [(vb, .inl (Γ.2.1 3, nb, .inl z6))]] := Y.perm [1, 0] rfl rfl
        subst hQ
        exact re_v X Y hr hlk z6 rfl hw (Nat.le_of_ble_eq_true rfl) (Nat.le_of_ble_eq_true rfl) dJ8_inflate_41
      · have hw := hw.2 hc
        refine lv_aload_n hx hb dJ8_inflate_17 rfl (lv_at hl 2 rfl) ?_
        refine lv_iload_n hx hb dJ8_inflate_18 rfl (lv_at hl 3 rfl) ?_
        refine lv_iinc (v := x4 + 1) (lv' := [(3, .int (x4 + 1)), (0, .ref va), (1, .int x3), (2, .ref vb), (4, .int a3), (5, .int x5)]) hx hb dJ8_inflate_19 hl (k := 3) rfl rfl (by decide) rfl (fun ls hl => ?_)
        refine lv_aload_n hx hb dJ8_inflate_22 rfl (lv_at hl 1 rfl) ?_
        refine lv_iload_n hx hb dJ8_inflate_23 rfl (lv_at hl 2 rfl) ?_
        refine lv_iinc (v := x3 + 1) (lv' := [(1, .int (x3 + 1)), (3, .int (x4 + 1)), (0, .ref va), (2, .ref vb), (4, .int a3), (5, .int x5)]) hx hb dJ8_inflate_24 hl (k := 2) rfl rfl (by decide) rfl (fun ls hl => ?_)
        refine ar_ald3 X Y 1 rfl hw.1 dJ8_inflate_27 ?_
        have hw := hw.2
        refine lv_sipush (v := 255) hx hb dJ8_inflate_28 rfl ?_
        refine lv_iand hx hb dJ8_inflate_31 ?_
        refine cl_SV X Y [0] [1] rfl rfl rfl eN_bl (fun U hU hW => ((eN_tr.at X hE Y [0] [1] rfl rfl) U hU hW)) (mtJ8_putChar (Γ := Γ) (l := l) hw) (lw_S q789 q790 q142 q791) hdJ8_putChar ⟨Nat.le_of_ble_eq_true rfl, Nat.le_of_ble_eq_true rfl⟩ rfl hl.1 rfl (Nat.le_of_ble_eq_true rfl) dJ8_inflate_32 ⟨Nat.le_of_ble_eq_true rfl, Nat.le_of_ble_eq_true rfl⟩ (fun  u H locs hw Y => ?_)
        obtain ⟨z7, rfl⟩ : ∃ z, z = u := ⟨_, rfl⟩
        have Y : Wo Γ A s H locs [[(vb, .inl (Γ.2.1 3, nb, .inl z7))], [(va, .inl (Γ.2.1 3, na, .inl f))]] := Y
        refine lv_iinc (v := x5 + 1) (lv' := [(5, .int (x5 + 1)), (1, .int (x3 + 1)), (3, .int (x4 + 1)), (0, .ref va), (2, .ref vb), (4, .int a3)]) hx hb dJ8_inflate_35 hl (k := 5) rfl rfl (by decide) rfl (fun ls hl => ?_)
        refine lv_goto (tgt := 10) hx hb dJ8_inflate_38 (by decide) ?_
        obtain ⟨n8, hlt, hw⟩ := hw
        exact ihn2 n8 hlt (x3 + 1) (x4 + 1) (x5 + 1) z7 H locs ls hw Y (lv_sub hl [3, 1, 4, 2, 5, 0] rfl)
  obtain ⟨n0, hw0⟩ := hw0
  exact hI1 n0 a1 a2 0 h H locs ls hw0 Y (lv_sub hl [1, 2, 3, 4, 5, 0] rfl)
def wpJ19_inflate (K : (Nat → Int32) → Prop)  (va : Nat) (na : Nat) (f : Nat → Int32) (vb : Nat) (nb : Nat) (h : Nat → Int32) (a1 : Int32) (a2 : Int32) (a3 : Int32) : Prop := wpJ8_inflate (fun z1 => (K z1))  va na f vb nb h a1 a2 a3
abbrev rmJ19_inflate : Room := { frames := 4, cells := 0, slots := 0, locals := 92 }
theorem hdJ19_inflate : yJ19_inflate.cls ≠ "java/lang/invoke/MethodHandle" ∧ yJ19_inflate.cls ≠ "java/lang/invoke/VarHandle" ∧ (parseMethodDescriptor yJ19_inflate.desc).map (fun d => d.parameters.length) = some 5 := by decide +kernel
set_option maxHeartbeats 4000000 in
theorem mtJ19_inflate {Γ : gT} {l : Launch} {va : Nat} {na : Nat} {f : Nat → Int32} {vb : Nat} {nb : Nat} {h : Nat → Int32} {a1 : Int32} {a2 : Int32} {a3 : Int32} {K : (Nat → Int32) → Prop}  (hw : wpJ19_inflate K  va na f vb nb h a1 a2 a3) : cV Γ l yJ19_inflate (ws_ yJ19_inflate cJ19_inflate 5 none) rmJ19_inflate (eN Γ) [.ref va, .int a1, .ref vb, .int a2, .int a3] [[(va, .inl (Γ.2.1 3, na, .inl f))], [(vb, .inl (Γ.2.1 3, nb, .inl h))]] (fun u : (Nat → Int32) => [[(va, .inl (Γ.2.1 3, na, .inl f))], [(vb, .inl (Γ.2.1 3, nb, .inl u))]]) (fun u => K u) := by
  refine cV_of (by decide +kernel) (Nat.le_of_ble_eq_true rfl) ?_
  intro p e s m args below meth c ls A Q hQ X hr hlk hnm hE Y hl
  have hx := X.1
  have hb := X.2.1
  have hl : lv_has ls 5 [(0, .ref va), (1, .int a1), (2, .ref vb), (3, .int a2), (4, .int a3)] := hl
  unfold wpJ19_inflate at hw
  obtain ⟨H, hH⟩ : ∃ H : Heap, H = s.heap := ⟨_, rfl⟩
  obtain ⟨locs, hlo⟩ : ∃ locs : List Loc, locs = [] := ⟨_, rfl⟩
  rw [← hH, ← hlo] at Y
  rw [← hH, ← hlo]
  refine lv_aload_n hx hb dJ19_inflate_0 rfl (lv_at hl 0 rfl) ?_
  refine lv_iload_n hx hb dJ19_inflate_1 rfl (lv_at hl 1 rfl) ?_
  refine lv_aload_n hx hb dJ19_inflate_2 rfl (lv_at hl 2 rfl) ?_
  refine lv_iload_n hx hb dJ19_inflate_3 rfl (lv_at hl 3 rfl) ?_
  refine lv_iload hx hb dJ19_inflate_4 (lv_at hl 4 rfl) ?_
  refine cl_SV X Y [0, 1] [] rfl rfl rfl eN_bl (fun U hU hW => ((eN_tr.at X hE Y [0, 1] [] rfl rfl) U hU hW)) (mtJ8_inflate (Γ := Γ) (l := l) hw) (lw_S q825 q826 q142 q827) hdJ8_inflate ⟨Nat.le_of_ble_eq_true rfl, Nat.le_of_ble_eq_true rfl⟩ rfl hl.1 rfl (Nat.le_of_ble_eq_true rfl) dJ19_inflate_6 ⟨Nat.le_of_ble_eq_true rfl, Nat.le_of_ble_eq_true rfl⟩ (fun  u H locs hw Y => ?_)
  obtain ⟨z1, rfl⟩ : ∃ z, z = u := ⟨_, rfl⟩
  have Y : Wo Γ A s H locs [[(va, .inl (Γ.2.1 3, na, .inl f))], [(vb, .inl (Γ.2.1 3, nb, .inl z1))]] := Y
  subst hQ
  exact re_v X Y hr hlk z1 rfl hw (Nat.le_of_ble_eq_true rfl) (Nat.le_of_ble_eq_true rfl) dJ19_inflate_9
def wpJ5_inflate (mc ms : Nat) (K : (Int32) → (Nat) → (Nat) → (Nat → Int32) → Prop)  (o : Nat) (cd : Int32) (ml : Int32) (n : Int32) (va : Nat) (cp : Nat) (f : Nat → Int32) : Prop := wpJ5_isLatin1 (fun r1 => ((r1 = 0 → (K cd va cp f)) ∧ (¬ r1 = 0 → (∃ mc5 ms6 : Nat, (0 + mc5 ≤ mc ∧ 0 + ms6 ≤ ms) ∧ wpJ8_newBytesFor mc5 ms6 (fun q2 q3 z4 => (wpJ19_inflate (fun z7 => (K 1 q2 q3 z7))  va cp f q2 q3 z4 0 0 n))  (nI cp)))))  o cd ml n va cp f
abbrev rmJ5_inflate (mc ms : Nat) : Room := { frames := 5, cells := mc, slots := ms, locals := 116 }
theorem hdJ5_inflate : yJ5_inflate.cls ≠ "java/lang/invoke/MethodHandle" ∧ yJ5_inflate.cls ≠ "java/lang/invoke/VarHandle" ∧ (parseMethodDescriptor yJ5_inflate.desc).map (fun d => d.parameters.length) = some 0 := by decide +kernel
theorem hpJ5_inflate : yJ5_inflate.name ≠ "<init>" ∧ (parseMethodDescriptor yJ5_inflate.desc).map (fun d => d.parameters.length) = some 0 := by decide +kernel
theorem huJ5_inflate : RJ5 ≠ "java/lang/invoke/MethodHandle" ∧ RJ5 ≠ "java/lang/invoke/VarHandle" ∧ (parseMethodDescriptor yJ5_inflate.desc).map (fun d => d.parameters.length) = some 0 := by decide +kernel
set_option maxHeartbeats 4000000 in
theorem mtJ5_inflate {Γ : gT} {l : Launch} {mc ms : Nat} {o : Nat} {cd : Int32} {ml : Int32} {n : Int32} {va : Nat} {cp : Nat} {f : Nat → Int32} {K : (Int32) → (Nat) → (Nat) → (Nat → Int32) → Prop}  (hw : wpJ5_inflate mc ms K  o cd ml n va cp f) : cV Γ l yJ5_inflate (ws_ yJ5_inflate cJ5_inflate 2 none) (rmJ5_inflate mc ms) (eN Γ) [.ref o] [[(o, .inr (15, [.ref va, .int cd, .int ml, .int n]))], [(va, .inl (Γ.2.1 3, cp, .inl f))]] (fun u : (Int32) × (Nat) × (Nat) × (Nat → Int32) => [[(o, .inr (15, [.ref u.2.1, .int u.1, .int ml, .int n]))], [(u.2.1, .inl (Γ.2.1 3, u.2.2.1, .inl u.2.2.2))]]) (fun u => K u.1 u.2.1 u.2.2.1 u.2.2.2) := by
  refine cV_of (by decide +kernel) (Nat.le_of_ble_eq_true rfl) ?_
  intro p e s m args below meth c ls A Q hQ X hr hlk hnm hE Y hl
  have hx := X.1
  have hb := X.2.1
  have hl : lv_has ls 2 [(0, .ref o)] := hl
  unfold wpJ5_inflate at hw
  obtain ⟨H, hH⟩ : ∃ H : Heap, H = s.heap := ⟨_, rfl⟩
  obtain ⟨locs, hlo⟩ : ∃ locs : List Loc, locs = [] := ⟨_, rfl⟩
  rw [← hH, ← hlo] at Y
  rw [← hH, ← hlo]
  have hk : 0 ≤ mc ∧ 0 ≤ ms := ⟨Nat.zero_le _, Nat.zero_le _⟩
  refine lv_aload_n hx hb dJ5_inflate_0 rfl (lv_at hl 0 rfl) ?_
  refine cv_UI X Y [0, 1] [] rfl rfl rfl eN_bl (fun U hU hW => ((eN_tr.at X hE Y [0, 1] [] rfl rfl) U hU hW)) (mtJ5_isLatin1 (Γ := Γ) (l := l) hw) (lw_U q774 q671 q672 q670 q139 q673) rfl huJ5_isLatin1 ⟨Nat.le_of_ble_eq_true rfl, Nat.le_of_ble_eq_true rfl⟩ (ob_cell X Y (b := 0) rfl List.mem_cons_self fcJ6) rfl hl.1 rfl (Nat.le_of_ble_eq_true rfl) dJ5_inflate_1 hk (fun r1 u H locs hw Y => ?_)
  have Y : Wo Γ A s H locs [[(o, .inr (15, [.ref va, .int cd, .int ml, .int n]))], [(va, .inl (Γ.2.1 3, cp, .inl f))]] := Y
  refine lv_if_ne (tgt := 8) hx hb dJ5_inflate_4 (by decide) (fun hc => ?_) (fun hc => ?_)
  · have hw := hw.2 hc
    refine lv_aload_n hx hb dJ5_inflate_8 rfl (lv_at hl 0 rfl) ?_
    refine ob_get X Y 0 rfl fcJ6 0 (by decide) (X.2.2.2.2.1 _ q282) rfl dJ5_inflate_9 ?_
    refine ar_len X Y 1 rfl (t := 3) rfl dJ5_inflate_12 ?_
    obtain ⟨mc5, ms6, hk2, hw⟩ := hw
    refine cl_SR X Y [] [0, 1] rfl rfl rfl E0_bl (fun _ _ _ => trivial) (mtJ8_newBytesFor (Γ := Γ) (l := l) (mc := mc5) (ms := ms6) hw) (lw_S q275 q276 q142 q277) hdJ8_newBytesFor ⟨Nat.le_of_ble_eq_true rfl, Nat.le_of_ble_eq_true rfl⟩ rfl hl.1 rfl (Nat.le_of_ble_eq_true rfl) dJ5_inflate_13 hk2 (fun r u H locs hw Y => ?_)
    obtain ⟨q2, q3, z4⟩ := u
    obtain ⟨rfl, hw⟩ := hw
    have hk : 0 + mc5 ≤ mc ∧ 0 + ms6 ≤ ms := hk2
    have Y : Wo Γ A s H locs [[(q2, .inl (Γ.2.1 3, q3, .inl z4))], [(o, .inr (15, [.ref va, .int cd, .int ml, .int n]))], [(va, .inl (Γ.2.1 3, cp, .inl f))]] := Y
    refine lv_astore_n (lv' := [(1, .ref q2), (0, .ref o)]) hx hb dJ5_inflate_16 rfl hl (by decide) rfl (fun ls hl => ?_)
    refine lv_aload_n hx hb dJ5_inflate_17 rfl (lv_at hl 1 rfl) ?_
    refine ob_get X Y 1 rfl fcJ6 0 (by decide) (X.2.2.2.2.1 _ q282) rfl dJ5_inflate_18 ?_
    refine lv_iconst (v := 0) hx hb dJ5_inflate_21 rfl ?_
    refine lv_aload_n hx hb dJ5_inflate_22 rfl (lv_at hl 0 rfl) ?_
    refine lv_iconst (v := 0) hx hb dJ5_inflate_23 rfl ?_
    refine lv_aload_n hx hb dJ5_inflate_24 rfl (lv_at hl 1 rfl) ?_
    refine ob_get X Y 1 rfl fcJ6 3 (by decide) (X.2.2.2.2.1 _ q286) rfl dJ5_inflate_25 ?_
    refine cl_SV X Y [2, 0] [1] rfl rfl rfl eN_bl (fun U hU hW => ((eN_tr.at X hE Y [2, 0] [1] rfl rfl) U hU hW)) (mtJ19_inflate (Γ := Γ) (l := l) hw) (lw_S q822 q823 q158 q824) hdJ19_inflate ⟨Nat.le_of_ble_eq_true rfl, Nat.le_of_ble_eq_true rfl⟩ rfl hl.1 rfl (Nat.le_of_ble_eq_true rfl) dJ5_inflate_28 hk (fun  u H locs hw Y => ?_)
    obtain ⟨z7, rfl⟩ : ∃ z, z = u := ⟨_, rfl⟩
    have Y : Wo Γ A s H locs [[(va, .inl (Γ.2.1 3, cp, .inl f))], [(q2, .inl (Γ.2.1 3, q3, .inl z7))], [(o, .inr (15, [.ref va, .int cd, .int ml, .int n]))]] := Y
    refine lv_aload_n hx hb dJ5_inflate_31 rfl (lv_at hl 1 rfl) ?_
    refine lv_aload_n hx hb dJ5_inflate_32 rfl (lv_at hl 0 rfl) ?_
    refine ob_put X Y 2 rfl fcJ6 0 (by decide) (X.2.2.2.2.1 _ q282) rfl (by first | rfl | exact op_nar _ | exact op_narA _) (by first | rfl | exact op_fit _ | exact op_fitA _) (Nat.le_of_ble_eq_true rfl) dJ5_inflate_33 (fun H locs Y => ?_)
    have Y : Wo Γ A s H locs [[(va, .inl (Γ.2.1 3, cp, .inl f))], [(q2, .inl (Γ.2.1 3, q3, .inl z7))], [(o, .inr (15, [.ref q2, .int cd, .int ml, .int n]))]] := Y
    refine lv_aload_n hx hb dJ5_inflate_36 rfl (lv_at hl 1 rfl) ?_
    refine lv_iconst (v := 1) hx hb dJ5_inflate_37 rfl ?_
    refine ob_put X Y 2 rfl fcJ6 1 (by decide) (X.2.2.2.2.1 _ q283) rfl rfl rfl (Nat.le_of_ble_eq_true rfl) dJ5_inflate_38 (fun H locs Y => ?_)
    have Y : Wo Γ A s H locs [[(va, .inl (Γ.2.1 3, cp, .inl f))], [(q2, .inl (Γ.2.1 3, q3, .inl z7))], [(o, .inr (15, [.ref q2, .int 1, .int ml, .int n]))]] := Y
    have Y : Wo Γ A s H locs [[(o, .inr (15, [.ref q2, .int 1, .int ml, .int n]))], [(q2, .inl (Γ.2.1 3, q3, .inl z7))]] := Y.drop [2, 1] [0] rfl rfl rfl
    subst hQ
    exact re_v X Y hr hlk (1, q2, q3, z7) rfl hw (hk.1) (hk.2) dJ5_inflate_41
  · have hw := hw.1 hc
    subst hQ
    exact re_v X Y hr hlk (cd, va, cp, f) rfl hw (hk.1) (hk.2) dJ5_inflate_7
def wpJ5_append_6 (mc ms : Nat) (K : (Int32) → (Int32) → (Nat) → (Nat) → (Nat → Int32) → Prop)  (o : Nat) (cd : Int32) (ml : Int32) (n : Int32) (va : Nat) (cp : Nat) (f : Nat → Int32) (a1 : Int32) : Prop := ∃ mc4 ms5 : Nat, (0 + mc4 ≤ mc ∧ 0 + ms5 ≤ ms) ∧ wpJ5_ensureCapacityInternal mc4 ms5 (fun q1 q2 z3 => (wpJ5_isLatin1 (fun r6 => (∃ J7 : Prop, (J7 → (wpJ5_isLatin1 (fun r8 => (∃ J9 : (Int32) → (Nat) → (Nat) → (Nat → Int32) → (Nat) → (Nat) → Prop, (∀ (z10 : Int32) (p11 : Nat) (p12 : Nat) (z13 : Nat → Int32) (kc14 : Nat) (ks15 : Nat), J9 z10 p11 p12 z13 kc14 ks15 → (wpJ8_putCharSB (fun z16 => (K z10 (n + 1) p11 p12 z16))  p11 p12 z13 n a1)) ∧ ((r8 = 0 → (J9 cd q1 q2 z3 (0 + mc4) (0 + ms5))) ∧ (¬ r8 = 0 → (∃ mc21 ms22 : Nat, ((0 + mc4) + mc21 ≤ mc ∧ (0 + ms5) + ms22 ≤ ms) ∧ wpJ5_inflate mc21 ms22 (fun z17 q18 q19 z20 => (J9 z17 q18 q19 z20 (0 + mc4 + mc21) (0 + ms5 + ms22)))  o cd ml n q1 q2 z3)))))  o cd ml n q1 q2 z3)) ∧ ((r6 = 0 → (J7)) ∧ (¬ r6 = 0 → (wpJ19_canEncode_2 (fun r23 => ((r23 = 0 → (J7)) ∧ (¬ r23 = 0 → (vp_in n q2 ∧ (K cd (n + 1) q1 q2 (upd z3 n.toNatClampNeg (vp_nar .byte a1.toInt8.toInt32)))))))  a1)))))  o cd ml n q1 q2 z3))  o cd ml n va cp f (n + 1)
abbrev rmJ5_append_6 (mc ms : Nat) : Room := { frames := 6, cells := mc, slots := ms, locals := 137 }
theorem hdJ5_append_6 : yJ5_append_6.cls ≠ "java/lang/invoke/MethodHandle" ∧ yJ5_append_6.cls ≠ "java/lang/invoke/VarHandle" ∧ (parseMethodDescriptor yJ5_append_6.desc).map (fun d => d.parameters.length) = some 1 := by decide +kernel
theorem hpJ5_append_6 : yJ5_append_6.name ≠ "<init>" ∧ (parseMethodDescriptor yJ5_append_6.desc).map (fun d => d.parameters.length) = some 1 := by decide +kernel
theorem huJ5_append_6 : RJ5 ≠ "java/lang/invoke/MethodHandle" ∧ RJ5 ≠ "java/lang/invoke/VarHandle" ∧ (parseMethodDescriptor yJ5_append_6.desc).map (fun d => d.parameters.length) = some 1 := by decide +kernel
set_option maxHeartbeats 4000000 in
theorem mtJ5_append_6 {Γ : gT} {l : Launch} {mc ms : Nat} {o : Nat} {cd : Int32} {ml : Int32} {n : Int32} {va : Nat} {cp : Nat} {f : Nat → Int32} {a1 : Int32} {K : (Int32) → (Int32) → (Nat) → (Nat) → (Nat → Int32) → Prop}  (hw : wpJ5_append_6 mc ms K  o cd ml n va cp f a1) : cR Γ l yJ5_append_6 (ws_ yJ5_append_6 cJ5_append_6 2 (some (.object "java/lang/AbstractStringBuilder"))) (rmJ5_append_6 mc ms) (eN Γ) [.ref o, .int a1] [[(o, .inr (15, [.ref va, .int cd, .int ml, .int n]))], [(va, .inl (Γ.2.1 3, cp, .inl f))]] (fun u : (Int32) × (Int32) × (Nat) × (Nat) × (Nat → Int32) => [[(o, .inr (15, [.ref u.2.2.1, .int u.1, .int ml, .int u.2.1]))], [(u.2.2.1, .inl (Γ.2.1 3, u.2.2.2.1, .inl u.2.2.2.2))]]) (fun r u => r = some o ∧ K u.1 u.2.1 u.2.2.1 u.2.2.2.1 u.2.2.2.2) := by
  refine cR_of (by decide +kernel) (Nat.le_of_ble_eq_true rfl) ?_
  intro p e s m args below meth c ls A Q hQ X hr hlk hnm hE Y hl
  have hx := X.1
  have hb := X.2.1
  have hl : lv_has ls 2 [(0, .ref o), (1, .int a1)] := hl
  unfold wpJ5_append_6 at hw
  obtain ⟨H, hH⟩ : ∃ H : Heap, H = s.heap := ⟨_, rfl⟩
  obtain ⟨locs, hlo⟩ : ∃ locs : List Loc, locs = [] := ⟨_, rfl⟩
  rw [← hH, ← hlo] at Y
  rw [← hH, ← hlo]
  have hk : 0 ≤ mc ∧ 0 ≤ ms := ⟨Nat.zero_le _, Nat.zero_le _⟩
  refine lv_aload_n hx hb dJ5_append_6_0 rfl (lv_at hl 0 rfl) ?_
  refine lv_aload_n hx hb dJ5_append_6_1 rfl (lv_at hl 0 rfl) ?_
  refine ob_get X Y 0 rfl fcJ6 3 (by decide) (X.2.2.2.2.1 _ q286) rfl dJ5_append_6_2 ?_
  refine lv_iconst (v := 1) hx hb dJ5_append_6_5 rfl ?_
  refine lv_iadd hx hb dJ5_append_6_6 ?_
  obtain ⟨mc4, ms5, hk2, hw⟩ := hw
  refine cv_KV X Y [0, 1] [] rfl rfl rfl eN_bl (fun U hU hW => ((eN_tr.at X hE Y [0, 1] [] rfl rfl) U hU hW)) (mtJ5_ensureCapacityInternal (Γ := Γ) (l := l) (mc := mc4) (ms := ms5) hw) (eN_sp hE 3 rfl) q743 q3733 q745 q139 q746 huJ5_ensureCapacityInternal ⟨Nat.le_of_ble_eq_true rfl, Nat.le_of_ble_eq_true rfl⟩ (ob_cell X Y (b := 0) rfl List.mem_cons_self fcJ6) rfl hl.1 rfl (Nat.le_of_ble_eq_true rfl) dJ5_append_6_7 hk2 (fun  u H locs hw Y => ?_)
  obtain ⟨q1, q2, z3⟩ := u
  have hk : 0 + mc4 ≤ mc ∧ 0 + ms5 ≤ ms := hk2
  have Y : Wo Γ A s H locs [[(o, .inr (15, [.ref q1, .int cd, .int ml, .int n]))], [(q1, .inl (Γ.2.1 3, q2, .inl z3))]] := Y
  refine lv_aload_n hx hb dJ5_append_6_10 rfl (lv_at hl 0 rfl) ?_
  refine cv_UI X Y [0, 1] [] rfl rfl rfl eN_bl (fun U hU hW => ((eN_tr.at X hE Y [0, 1] [] rfl rfl) U hU hW)) (mtJ5_isLatin1 (Γ := Γ) (l := l) hw) (lw_U q774 q671 q672 q670 q139 q673) rfl huJ5_isLatin1 ⟨Nat.le_of_ble_eq_true rfl, Nat.le_of_ble_eq_true rfl⟩ (ob_cell X Y (b := 0) rfl List.mem_cons_self fcJ6) rfl hl.1 rfl (Nat.le_of_ble_eq_true rfl) dJ5_append_6_11 hk (fun r6 u H locs hw Y => ?_)
  have Y : Wo Γ A s H locs [[(o, .inr (15, [.ref q1, .int cd, .int ml, .int n]))], [(q1, .inl (Γ.2.1 3, q2, .inl z3))]] := Y
  obtain ⟨J7, hwR, hw⟩ := hw
  have hJ7 : ∀ (H : Heap) (locs : List Loc) (ls : Array Slot), J7  → (0 + mc4 ≤ mc ∧ 0 + ms5 ≤ ms) → Wo Γ A s H locs [[(o, .inr (15, [.ref q1, .int cd, .int ml, .int n]))], [(q1, .inl (Γ.2.1 3, q2, .inl z3))]] → lv_has ls 2 [(0, .ref o), (1, .int a1)] → W p l e (rmJ5_append_6 mc ms) s m args below meth c H locs (0 + mc4) (0 + ms5) Q (F0 m 45 ls []) := by
    intro  H locs ls hw hk Y hl
    have hw := hwR  hw
    refine lv_aload_n hx hb dJ5_append_6_45 rfl (lv_at hl 0 rfl) ?_
    refine cv_UI X Y [0, 1] [] rfl rfl rfl eN_bl (fun U hU hW => ((eN_tr.at X hE Y [0, 1] [] rfl rfl) U hU hW)) (mtJ5_isLatin1 (Γ := Γ) (l := l) hw) (lw_U q774 q671 q672 q670 q139 q673) rfl huJ5_isLatin1 ⟨Nat.le_of_ble_eq_true rfl, Nat.le_of_ble_eq_true rfl⟩ (ob_cell X Y (b := 0) rfl List.mem_cons_self fcJ6) rfl hl.1 rfl (Nat.le_of_ble_eq_true rfl) dJ5_append_6_46 hk (fun r8 u H locs hw Y => ?_)
    have Y : Wo Γ A s H locs [[(o, .inr (15, [.ref q1, .int cd, .int ml, .int n]))], [(q1, .inl (Γ.2.1 3, q2, .inl z3))]] := Y
    obtain ⟨J9, hwR, hw⟩ := hw
    have hJ9 : ∀ (z10 : Int32) (p11 : Nat) (p12 : Nat) (z13 : Nat → Int32) (kc14 : Nat) (ks15 : Nat) (H : Heap) (locs : List Loc) (ls : Array Slot), J9 z10 p11 p12 z13 kc14 ks15 → (kc14 ≤ mc ∧ ks15 ≤ ms) → Wo Γ A s H locs [[(o, .inr (15, [.ref p11, .int z10, .int ml, .int n]))], [(p11, .inl (Γ.2.1 3, p12, .inl z13))]] → lv_has ls 2 [(0, .ref o), (1, .int a1)] → W p l e (rmJ5_append_6 mc ms) s m args below meth c H locs kc14 ks15 Q (F0 m 56 ls []) := by
      intro z10 p11 p12 z13 kc14 ks15 H locs ls hw hk Y hl
      have hw := hwR z10 p11 p12 z13 kc14 ks15 hw
      refine lv_aload_n hx hb dJ5_append_6_56 rfl (lv_at hl 0 rfl) ?_
      refine ob_get X Y 0 rfl fcJ6 0 (by decide) (X.2.2.2.2.1 _ q282) rfl dJ5_append_6_57 ?_
      refine lv_aload_n hx hb dJ5_append_6_60 rfl (lv_at hl 0 rfl) ?_
      refine lv_dup hx hb dJ5_append_6_61 rfl ?_
      refine ob_get X Y 0 rfl fcJ6 3 (by decide) (X.2.2.2.2.1 _ q286) rfl dJ5_append_6_62 ?_
      refine lv_dup_x1 hx hb dJ5_append_6_65 rfl rfl ?_
      refine lv_iconst (v := 1) hx hb dJ5_append_6_66 rfl ?_
      refine lv_iadd hx hb dJ5_append_6_67 ?_
      refine ob_put X Y 0 rfl fcJ6 3 (by decide) (X.2.2.2.2.1 _ q286) rfl rfl rfl (Nat.le_of_ble_eq_true rfl) dJ5_append_6_68 (fun H locs Y => ?_)
      have Y : Wo Γ A s H locs [[(o, .inr (15, [.ref p11, .int z10, .int ml, .int (n + 1)]))], [(p11, .inl (Γ.2.1 3, p12, .inl z13))]] := Y
      refine lv_iload_n hx hb dJ5_append_6_71 rfl (lv_at hl 1 rfl) ?_
      refine cl_SV X Y [1] [0] rfl rfl rfl eN_bl (fun U hU hW => ((eN_tr.at X hE Y [1] [0] rfl rfl) U hU hW)) (mtJ8_putCharSB (Γ := Γ) (l := l) hw) (lw_S q1496 q1497 q142 q1498) hdJ8_putCharSB ⟨Nat.le_of_ble_eq_true rfl, Nat.le_of_ble_eq_true rfl⟩ rfl hl.1 rfl (Nat.le_of_ble_eq_true rfl) dJ5_append_6_72 hk (fun  u H locs hw Y => ?_)
      obtain ⟨z16, rfl⟩ : ∃ z, z = u := ⟨_, rfl⟩
      have Y : Wo Γ A s H locs [[(p11, .inl (Γ.2.1 3, p12, .inl z16))], [(o, .inr (15, [.ref p11, .int z10, .int ml, .int (n + 1)]))]] := Y
      refine lv_aload_n hx hb dJ5_append_6_75 rfl (lv_at hl 0 rfl) ?_
      have Y : Wo Γ A s H locs [[(o, .inr (15, [.ref p11, .int z10, .int ml, .int (n + 1)]))], [(p11, .inl (Γ.2.1 3, p12, .inl z16))]] := Y.perm [1, 0] rfl rfl
      subst hQ
      exact re_r (r := some o) X Y hr (by first | exact Or.inl ⟨_, rfl⟩ | exact Or.inr ⟨_, rfl⟩) hlk (z10, n + 1, p11, p12, z16) rfl ⟨rfl, hw⟩ (hk.1) (hk.2) dJ5_append_6_76
    refine lv_if_eq (tgt := 56) hx hb dJ5_append_6_49 (by decide) (fun hc => ?_) (fun hc => ?_)
    · have hw := hw.1 hc
      exact hJ9 cd q1 q2 z3 (0 + mc4) (0 + ms5) H locs ls hw hk Y (lv_sub hl [0, 1] rfl)
    · have hw := hw.2 hc
      refine lv_aload_n hx hb dJ5_append_6_52 rfl (lv_at hl 0 rfl) ?_
      obtain ⟨mc21, ms22, hk2, hw⟩ := hw
      refine cv_KV X Y [0, 1] [] rfl rfl rfl eN_bl (fun U hU hW => ((eN_tr.at X hE Y [0, 1] [] rfl rfl) U hU hW)) (mtJ5_inflate (Γ := Γ) (l := l) (mc := mc21) (ms := ms22) hw) (eN_sp hE 4 rfl) q818 q3739 q820 q139 q821 huJ5_inflate ⟨Nat.le_of_ble_eq_true rfl, Nat.le_of_ble_eq_true rfl⟩ (ob_cell X Y (b := 0) rfl List.mem_cons_self fcJ6) rfl hl.1 rfl (Nat.le_of_ble_eq_true rfl) dJ5_append_6_53 hk2 (fun  u H locs hw Y => ?_)
      obtain ⟨z17, q18, q19, z20⟩ := u
      have hk : 0 + mc4 + mc21 ≤ mc ∧ 0 + ms5 + ms22 ≤ ms := hk2
      have Y : Wo Γ A s H locs [[(o, .inr (15, [.ref q18, .int z17, .int ml, .int n]))], [(q18, .inl (Γ.2.1 3, q19, .inl z20))]] := Y
      exact hJ9 z17 q18 q19 z20 (0 + mc4 + mc21) (0 + ms5 + ms22) H locs ls hw hk Y (lv_sub hl [0, 1] rfl)
  refine lv_if_eq (tgt := 45) hx hb dJ5_append_6_14 (by decide) (fun hc => ?_) (fun hc => ?_)
  · have hw := hw.1 hc
    exact hJ7  H locs ls hw hk Y (lv_sub hl [0, 1] rfl)
  · have hw := hw.2 hc
    refine lv_iload_n hx hb dJ5_append_6_17 rfl (lv_at hl 1 rfl) ?_
    refine cl_SI X Y [] [0, 1] rfl rfl rfl E0_bl (fun _ _ _ => trivial) (mtJ19_canEncode_2 (Γ := Γ) (l := l) hw) (lw_S q1466 q1467 q158 q1468) hdJ19_canEncode_2 ⟨Nat.le_of_ble_eq_true rfl, Nat.le_of_ble_eq_true rfl⟩ rfl hl.1 rfl (Nat.le_of_ble_eq_true rfl) dJ5_append_6_18 hk (fun r23 u H locs hw Y => ?_)
    have Y : Wo Γ A s H locs [[(o, .inr (15, [.ref q1, .int cd, .int ml, .int n]))], [(q1, .inl (Γ.2.1 3, q2, .inl z3))]] := Y
    refine lv_if_eq (tgt := 45) hx hb dJ5_append_6_21 (by decide) (fun hc => ?_) (fun hc => ?_)
    · have hw := hw.1 hc
      exact hJ7  H locs ls hw hk Y (lv_sub hl [0, 1] rfl)
    · have hw := hw.2 hc
      refine lv_aload_n hx hb dJ5_append_6_24 rfl (lv_at hl 0 rfl) ?_
      refine ob_get X Y 0 rfl fcJ6 0 (by decide) (X.2.2.2.2.1 _ q282) rfl dJ5_append_6_25 ?_
      refine lv_aload_n hx hb dJ5_append_6_28 rfl (lv_at hl 0 rfl) ?_
      refine lv_dup hx hb dJ5_append_6_29 rfl ?_
      refine ob_get X Y 0 rfl fcJ6 3 (by decide) (X.2.2.2.2.1 _ q286) rfl dJ5_append_6_30 ?_
      refine lv_dup_x1 hx hb dJ5_append_6_33 rfl rfl ?_
      refine lv_iconst (v := 1) hx hb dJ5_append_6_34 rfl ?_
      refine lv_iadd hx hb dJ5_append_6_35 ?_
      refine ob_put X Y 0 rfl fcJ6 3 (by decide) (X.2.2.2.2.1 _ q286) rfl rfl rfl (Nat.le_of_ble_eq_true rfl) dJ5_append_6_36 (fun H locs Y => ?_)
      have Y : Wo Γ A s H locs [[(o, .inr (15, [.ref q1, .int cd, .int ml, .int (n + 1)]))], [(q1, .inl (Γ.2.1 3, q2, .inl z3))]] := Y
      refine lv_iload_n hx hb dJ5_append_6_39 rfl (lv_at hl 1 rfl) ?_
      refine lv_i2b hx hb dJ5_append_6_40 rfl ?_
      refine ar_ast3 X Y 1 rfl hw.1 dJ5_append_6_41 (fun H locs Y => ?_)
      have Y : Wo Γ A s H locs [[(o, .inr (15, [.ref q1, .int cd, .int ml, .int (n + 1)]))], [(q1, .inl (Γ.2.1 3, q2, .inl (upd z3 n.toNatClampNeg (vp_nar .byte a1.toInt8.toInt32))))]] := Y
      have hw := hw.2
      refine lv_goto (tgt := 75) hx hb dJ5_append_6_42 (by decide) ?_
      refine lv_aload_n hx hb dJ5_append_6_75 rfl (lv_at hl 0 rfl) ?_
      subst hQ
      exact re_r (r := some o) X Y hr (by first | exact Or.inl ⟨_, rfl⟩ | exact Or.inr ⟨_, rfl⟩) hlk (cd, n + 1, q1, q2, upd z3 n.toNatClampNeg (vp_nar .byte a1.toInt8.toInt32)) rfl ⟨rfl, hw⟩ (hk.1) (hk.2) dJ5_append_6_76
def wpJ6_append_7 (mc ms : Nat) (K : (Int32) → (Int32) → (Nat) → (Nat) → (Nat → Int32) → Prop)  (o : Nat) (cd : Int32) (ml : Int32) (n : Int32) (va : Nat) (cp : Nat) (f : Nat → Int32) (a1 : Int32) : Prop := ∃ mc6 ms7 : Nat, (0 + mc6 ≤ mc ∧ 0 + ms7 ≤ ms) ∧ wpJ5_append_6 mc6 ms7 (fun z1 z2 q3 q4 z5 => (K z1 z2 q3 q4 z5))  o cd ml n va cp f a1
abbrev rmJ6_append_7 (mc ms : Nat) : Room := { frames := 7, cells := mc, slots := ms, locals := 158 }
theorem hdJ6_append_7 : yJ6_append_7.cls ≠ "java/lang/invoke/MethodHandle" ∧ yJ6_append_7.cls ≠ "java/lang/invoke/VarHandle" ∧ (parseMethodDescriptor yJ6_append_7.desc).map (fun d => d.parameters.length) = some 1 := by decide +kernel
theorem hpJ6_append_7 : yJ6_append_7.name ≠ "<init>" ∧ (parseMethodDescriptor yJ6_append_7.desc).map (fun d => d.parameters.length) = some 1 := by decide +kernel
theorem huJ6_append_7 : RJ6 ≠ "java/lang/invoke/MethodHandle" ∧ RJ6 ≠ "java/lang/invoke/VarHandle" ∧ (parseMethodDescriptor yJ6_append_7.desc).map (fun d => d.parameters.length) = some 1 := by decide +kernel
set_option maxHeartbeats 4000000 in
theorem mtJ6_append_7 {Γ : gT} {l : Launch} {mc ms : Nat} {o : Nat} {cd : Int32} {ml : Int32} {n : Int32} {va : Nat} {cp : Nat} {f : Nat → Int32} {a1 : Int32} {K : (Int32) → (Int32) → (Nat) → (Nat) → (Nat → Int32) → Prop}  (hw : wpJ6_append_7 mc ms K  o cd ml n va cp f a1) : cR Γ l yJ6_append_7 (ws_ yJ6_append_7 cJ6_append_7 2 (some (.object "java/lang/StringBuilder"))) (rmJ6_append_7 mc ms) (eN Γ) [.ref o, .int a1] [[(o, .inr (15, [.ref va, .int cd, .int ml, .int n]))], [(va, .inl (Γ.2.1 3, cp, .inl f))]] (fun u : (Int32) × (Int32) × (Nat) × (Nat) × (Nat → Int32) => [[(o, .inr (15, [.ref u.2.2.1, .int u.1, .int ml, .int u.2.1]))], [(u.2.2.1, .inl (Γ.2.1 3, u.2.2.2.1, .inl u.2.2.2.2))]]) (fun r u => r = some o ∧ K u.1 u.2.1 u.2.2.1 u.2.2.2.1 u.2.2.2.2) := by
  refine cR_of (by decide +kernel) (Nat.le_of_ble_eq_true rfl) ?_
  intro p e s m args below meth c ls A Q hQ X hr hlk hnm hE Y hl
  have hx := X.1
  have hb := X.2.1
  have hl : lv_has ls 2 [(0, .ref o), (1, .int a1)] := hl
  unfold wpJ6_append_7 at hw
  obtain ⟨H, hH⟩ : ∃ H : Heap, H = s.heap := ⟨_, rfl⟩
  obtain ⟨locs, hlo⟩ : ∃ locs : List Loc, locs = [] := ⟨_, rfl⟩
  rw [← hH, ← hlo] at Y
  rw [← hH, ← hlo]
  have hk : 0 ≤ mc ∧ 0 ≤ ms := ⟨Nat.zero_le _, Nat.zero_le _⟩
  refine lv_aload_n hx hb dJ6_append_7_0 rfl (lv_at hl 0 rfl) ?_
  refine lv_iload_n hx hb dJ6_append_7_1 rfl (lv_at hl 1 rfl) ?_
  obtain ⟨mc6, ms7, hk2, hw⟩ := hw
  refine cv_PR (ob_at X fcJ6) X Y [0, 1] [] rfl rfl rfl eN_bl (fun U hU hW => ((eN_tr.at X hE Y [0, 1] [] rfl rfl) U hU hW)) (mtJ5_append_6 (Γ := Γ) (l := l) (mc := mc6) (ms := ms7) hw) (lw_P q2756 q3749 q295 q2757 q139 q2758) hpJ5_append_6 ⟨Nat.le_of_ble_eq_true rfl, Nat.le_of_ble_eq_true rfl⟩ (ob_cell X Y (b := 0) rfl List.mem_cons_self fcJ6) rfl hl.1 rfl (Nat.le_of_ble_eq_true rfl) dJ6_append_7_2 hk2 (fun r u H locs hw Y => ?_)
  obtain ⟨z1, z2, q3, q4, z5⟩ := u
  obtain ⟨rfl, hw⟩ := hw
  have hk : 0 + mc6 ≤ mc ∧ 0 + ms7 ≤ ms := hk2
  have Y : Wo Γ A s H locs [[(o, .inr (15, [.ref q3, .int z1, .int ml, .int z2]))], [(q3, .inl (Γ.2.1 3, q4, .inl z5))]] := Y
  refine lv_pop hx hb dJ6_append_7_5 rfl ?_
  refine lv_aload_n hx hb dJ6_append_7_6 rfl (lv_at hl 0 rfl) ?_
  subst hQ
  exact re_r (r := some o) X Y hr (by first | exact Or.inl ⟨_, rfl⟩ | exact Or.inr ⟨_, rfl⟩) hlk (z1, z2, q3, q4, z5) rfl ⟨rfl, hw⟩ (hk.1) (hk.2) dJ6_append_7_7
def wpJ6_append_4 (mc ms : Nat) (K : (Int32) → (Nat) → (Nat) → (Nat → Int32) → Prop)  (o : Nat) (cd : Int32) (ml : Int32) (n : Int32) (va : Nat) (cp : Nat) (f : Nat → Int32) (sa : Nat) (sv : Nat) (sn : Nat) (sf : Nat → Int32) : Prop := ∃ mc5 ms6 : Nat, (0 + mc5 ≤ mc ∧ 0 + ms6 ≤ ms) ∧ wpJ6_append_2 mc5 ms6 (fun z1 q2 q3 z4 => (K z1 q2 q3 z4))  o cd ml n va cp f sa sv sn sf
abbrev rmJ6_append_4 (mc ms : Nat) : Room := { frames := 6, cells := mc, slots := ms, locals := 148 }
theorem hdJ6_append_4 : yJ6_append_4.cls ≠ "java/lang/invoke/MethodHandle" ∧ yJ6_append_4.cls ≠ "java/lang/invoke/VarHandle" ∧ (parseMethodDescriptor yJ6_append_4.desc).map (fun d => d.parameters.length) = some 1 := by decide +kernel
theorem hpJ6_append_4 : yJ6_append_4.name ≠ "<init>" ∧ (parseMethodDescriptor yJ6_append_4.desc).map (fun d => d.parameters.length) = some 1 := by decide +kernel
theorem huJ6_append_4 : RJ6 ≠ "java/lang/invoke/MethodHandle" ∧ RJ6 ≠ "java/lang/invoke/VarHandle" ∧ (parseMethodDescriptor yJ6_append_4.desc).map (fun d => d.parameters.length) = some 1 := by decide +kernel
set_option maxHeartbeats 4000000 in
theorem mtJ6_append_4 {Γ : gT} {l : Launch} {mc ms : Nat} {o : Nat} {cd : Int32} {ml : Int32} {n : Int32} {va : Nat} {cp : Nat} {f : Nat → Int32} {sa : Nat} {sv : Nat} {sn : Nat} {sf : Nat → Int32} {K : (Int32) → (Nat) → (Nat) → (Nat → Int32) → Prop}  (hw : wpJ6_append_4 mc ms K  o cd ml n va cp f sa sv sn sf) : cR Γ l yJ6_append_4 (ws_ yJ6_append_4 cJ6_append_4 2 (some (.object "java/lang/AbstractStringBuilder"))) (rmJ6_append_4 mc ms) (eA (eR sa sv sn sf) (eN Γ)) [.ref o, .ref sa] [[(o, .inr (15, [.ref va, .int cd, .int ml, .int n]))], [(va, .inl (Γ.2.1 3, cp, .inl f))]] (fun u : (Int32) × (Nat) × (Nat) × (Nat → Int32) => [[(o, .inr (15, [.ref u.2.1, .int cd, .int ml, .int u.1]))], [(u.2.1, .inl (Γ.2.1 3, u.2.2.1, .inl u.2.2.2))]]) (fun r u => r = some o ∧ K u.1 u.2.1 u.2.2.1 u.2.2.2) := by
  refine cR_of (by decide +kernel) (Nat.le_of_ble_eq_true rfl) ?_
  intro p e s m args below meth c ls A Q hQ X hr hlk hnm hE Y hl
  have hx := X.1
  have hb := X.2.1
  have hl : lv_has ls 2 [(0, .ref o), (1, .ref sa)] := hl
  unfold wpJ6_append_4 at hw
  obtain ⟨H, hH⟩ : ∃ H : Heap, H = s.heap := ⟨_, rfl⟩
  obtain ⟨locs, hlo⟩ : ∃ locs : List Loc, locs = [] := ⟨_, rfl⟩
  rw [← hH, ← hlo] at Y
  rw [← hH, ← hlo]
  have hk : 0 ≤ mc ∧ 0 ≤ ms := ⟨Nat.zero_le _, Nat.zero_le _⟩
  refine lv_aload_n hx hb dJ6_append_4_0 rfl (lv_at hl 0 rfl) ?_
  refine lv_aload_n hx hb dJ6_append_4_1 rfl (lv_at hl 1 rfl) ?_
  obtain ⟨mc5, ms6, hk2, hw⟩ := hw
  refine cv_VR X Y [0, 1] [] rfl rfl rfl (eA_bl eR_bl eN_bl) (fun U hU hW => ⟨((eR_tr.at X hE.1 Y [0, 1] [] rfl rfl) U hU hW), ((eN_tr.at X hE.2 Y [0, 1] [] rfl rfl) U hU hW)⟩) (mtJ6_append_2 (Γ := Γ) (l := l) (mc := mc5) (ms := ms6) hw) (lw_V q1386 q795 q796 q140 q797) ⟨rfl, hdJ6_append_2⟩ ⟨Nat.le_of_ble_eq_true rfl, Nat.le_of_ble_eq_true rfl⟩ (ob_cell X Y (b := 0) rfl List.mem_cons_self fcJ6) rfl hl.1 rfl (Nat.le_of_ble_eq_true rfl) dJ6_append_4_2 hk2 (fun r u H locs hw Y => ?_)
  obtain ⟨z1, q2, q3, z4⟩ := u
  obtain ⟨rfl, hw⟩ := hw
  have hk : 0 + mc5 ≤ mc ∧ 0 + ms6 ≤ ms := hk2
  have Y : Wo Γ A s H locs [[(o, .inr (15, [.ref q2, .int cd, .int ml, .int z1]))], [(q2, .inl (Γ.2.1 3, q3, .inl z4))]] := Y
  subst hQ
  exact re_r (r := some o) X Y hr (by first | exact Or.inl ⟨_, rfl⟩ | exact Or.inr ⟨_, rfl⟩) hlk (z1, q2, q3, z4) rfl ⟨rfl, hw⟩ (hk.1) (hk.2) dJ6_append_4_5
def wpJ5_init_2 (mc ms : Nat) (K : (Int32) → (Int32) → (Nat) → (Nat) → (Nat → Int32) → Prop)  (o : Nat) (sa : Nat) (sv : Nat) (sn : Nat) (sf : Nat → Int32) : Prop := wpJ7_length (fun r1 => (∃ J2 : (Int32) → Prop, (∀ (x3 : Int32), J2 x3 → (wpJ7_coder (fun r4 => ((narrow .byte (.int r4) = .int r4 ∧ fits .byte (.int r4) = true) ∧ ((r4 = 0 → (¬ x3 < 0 ∧ ∀ m17 : Nat, x3.toNatClampNeg = m17 → (m17 ≤ 65536 ∧ (0 + 1 ≤ mc ∧ 0 + m17 ≤ ms) ∧ ∀ q16 : Nat, (∃ mc22 ms23 : Nat, ((0 + 1) + mc22 ≤ mc ∧ (0 + m17) + ms23 ≤ ms) ∧ wpJ6_append_4 mc22 ms23 (fun z18 q19 q20 z21 => (K r4 z18 q19 q20 z21))  o r4 0 0 q16 m17 (fun _ => 0) sa sv sn sf)))) ∧ (¬ r4 = 0 → (∃ mc8 ms9 : Nat, (0 + mc8 ≤ mc ∧ 0 + ms9 ≤ ms) ∧ wpJ8_newBytesFor mc8 ms9 (fun q5 q6 z7 => (∃ mc14 ms15 : Nat, ((0 + mc8) + mc14 ≤ mc ∧ (0 + ms9) + ms15 ≤ ms) ∧ wpJ6_append_4 mc14 ms15 (fun z10 q11 q12 z13 => (K r4 z10 q11 q12 z13))  o r4 0 0 q5 q6 z7 sa sv sn sf))  x3)))))  sa sv sn sf)) ∧ ((2147483631 ≤ r1 → (J2 2147483647)) ∧ (¬ 2147483631 ≤ r1 → (J2 (r1 + 16))))))  sa sv sn sf
abbrev rmJ5_init_2 (mc ms : Nat) : Room := { frames := 7, cells := mc, slots := ms, locals := 169 }
theorem hdJ5_init_2 : yJ5_init_2.cls ≠ "java/lang/invoke/MethodHandle" ∧ yJ5_init_2.cls ≠ "java/lang/invoke/VarHandle" ∧ (parseMethodDescriptor yJ5_init_2.desc).map (fun d => d.parameters.length) = some 1 := by decide +kernel
set_option maxHeartbeats 4000000 in
theorem mtJ5_init_2 {Γ : gT} {l : Launch} {mc ms : Nat} {o : Nat} {sa : Nat} {sv : Nat} {sn : Nat} {sf : Nat → Int32} {K : (Int32) → (Int32) → (Nat) → (Nat) → (Nat → Int32) → Prop}  (hw : wpJ5_init_2 mc ms K  o sa sv sn sf) : cV Γ l yJ5_init_2 (ws_ yJ5_init_2 cJ5_init_2 5 none) (rmJ5_init_2 mc ms) (eA (eR sa sv sn sf) (eN Γ)) [.ref o, .ref sa] [[(o, .inr (15, [.null, .int 0, .int 0, .int 0]))]] (fun u : (Int32) × (Int32) × (Nat) × (Nat) × (Nat → Int32) => [[(o, .inr (15, [.ref u.2.2.1, .int u.1, .int 0, .int u.2.1]))], [(u.2.2.1, .inl (Γ.2.1 3, u.2.2.2.1, .inl u.2.2.2.2))]]) (fun u => K u.1 u.2.1 u.2.2.1 u.2.2.2.1 u.2.2.2.2) := by
  refine cV_of (by decide +kernel) (Nat.le_of_ble_eq_true rfl) ?_
  intro p e s m args below meth c ls A Q hQ X hr hlk hnm hE Y hl
  have hx := X.1
  have hb := X.2.1
  have hl : lv_has ls 5 [(0, .ref o), (1, .ref sa)] := hl
  unfold wpJ5_init_2 at hw
  obtain ⟨H, hH⟩ : ∃ H : Heap, H = s.heap := ⟨_, rfl⟩
  obtain ⟨locs, hlo⟩ : ∃ locs : List Loc, locs = [] := ⟨_, rfl⟩
  rw [← hH, ← hlo] at Y
  rw [← hH, ← hlo]
  have hk : 0 ≤ mc ∧ 0 ≤ ms := ⟨Nat.zero_le _, Nat.zero_le _⟩
  refine lv_aload_n hx hb dJ5_init_2_0 rfl (lv_at hl 0 rfl) ?_
  refine W.objInit hx hb X.2.2.2.1 (X.2.2.2.2.1 _ q272) (X.2.2.2.2.1 _ q195) (X.2.2.2.2.1 _ q196) rfl (by rw [X.2.2.1]; exact hl.1) rfl dJ5_init_2_1 (Nat.le_of_ble_eq_true rfl) (Nat.le_of_ble_eq_true rfl) ?_
  refine W.eq (g2 := F0 m 4 ls []) rfl ?_
  refine lv_aload_n hx hb dJ5_init_2_4 rfl (lv_at hl 1 rfl) ?_
  refine cv_VI X Y [] [0] rfl rfl rfl (eA_bl eR_bl eN_bl) (fun U hU hW => ⟨((eR_tr.at X hE.1 Y [] [0] rfl rfl) U hU hW), ((eN_tr.at X hE.2 Y [] [0] rfl rfl) U hU hW)⟩) (mtJ7_length (Γ := Γ) (l := l) hw) (lw_V q808 q519 q520 q141 q521) ⟨rfl, hdJ7_length⟩ ⟨Nat.le_of_ble_eq_true rfl, Nat.le_of_ble_eq_true rfl⟩ (ro_recv Y hE.1) rfl hl.1 rfl (Nat.le_of_ble_eq_true rfl) dJ5_init_2_5 hk (fun r1 u H locs hw Y => ?_)
  have Y : Wo Γ A s H locs [[(o, .inr (15, [.null, .int 0, .int 0, .int 0]))]] := Y
  refine lv_istore_n (lv' := [(2, .int r1), (0, .ref o), (1, .ref sa)]) hx hb dJ5_init_2_8 rfl hl (by decide) rfl (fun ls hl => ?_)
  refine lv_iload_n hx hb dJ5_init_2_9 rfl (lv_at hl 0 rfl) ?_
  refine lv_ldc (v := 2147483631) hx hb X.2.2.2.1 (X.2.2.2.2.1 _ q2658) dJ5_init_2_10 ?_
  obtain ⟨J2, hwR, hw⟩ := hw
  have hJ2 : ∀ (x3 : Int32) (H : Heap) (locs : List Loc) (ls : Array Slot), J2 x3 → (0 ≤ mc ∧ 0 ≤ ms) → Wo Γ A s H locs [[(o, .inr (15, [.null, .int 0, .int 0, .int 0]))]] → lv_has ls 5 [(0, .ref o), (1, .ref sa)] → W p l e (rmJ5_init_2 mc ms) s m args below meth c H locs 0 0 Q (F0 m 24 ls [.int x3]) := by
    intro x3 H locs ls hw hk Y hl
    have hw := hwR x3 hw
    refine lv_istore_n (lv' := [(3, .int x3), (0, .ref o), (1, .ref sa)]) hx hb dJ5_init_2_24 rfl hl (by decide) rfl (fun ls hl => ?_)
    refine lv_aload_n hx hb dJ5_init_2_25 rfl (lv_at hl 2 rfl) ?_
    refine cv_VI X Y [] [0] rfl rfl rfl (eA_bl eR_bl eN_bl) (fun U hU hW => ⟨((eR_tr.at X hE.1 Y [] [0] rfl rfl) U hU hW), ((eN_tr.at X hE.2 Y [] [0] rfl rfl) U hU hW)⟩) (mtJ7_coder (Γ := Γ) (l := l) hw) (lw_V q817 q523 q524 q141 q525) ⟨rfl, hdJ7_coder⟩ ⟨Nat.le_of_ble_eq_true rfl, Nat.le_of_ble_eq_true rfl⟩ (ro_recv Y hE.1) rfl hl.1 rfl (Nat.le_of_ble_eq_true rfl) dJ5_init_2_26 hk (fun r4 u H locs hw Y => ?_)
    have Y : Wo Γ A s H locs [[(o, .inr (15, [.null, .int 0, .int 0, .int 0]))]] := Y
    refine lv_istore (lv' := [(4, .int r4), (3, .int x3), (0, .ref o), (1, .ref sa)]) hx hb dJ5_init_2_29 hl (by decide) rfl (fun ls hl => ?_)
    refine lv_aload_n hx hb dJ5_init_2_31 rfl (lv_at hl 2 rfl) ?_
    refine lv_iload hx hb dJ5_init_2_32 (lv_at hl 0 rfl) ?_
    refine ob_put X Y 0 rfl fcJ6 1 (by decide) (X.2.2.2.2.1 _ q283) rfl hw.1.1 hw.1.2 (Nat.le_of_ble_eq_true rfl) dJ5_init_2_34 (fun H locs Y => ?_)
    have Y : Wo Γ A s H locs [[(o, .inr (15, [.null, .int r4, .int 0, .int 0]))]] := Y
    have hw := hw.2
    refine lv_aload_n hx hb dJ5_init_2_37 rfl (lv_at hl 2 rfl) ?_
    refine lv_iload hx hb dJ5_init_2_38 (lv_at hl 0 rfl) ?_
    refine lv_if_ne (tgt := 49) hx hb dJ5_init_2_40 (by decide) (fun hc => ?_) (fun hc => ?_)
    · have hw := hw.2 hc
      refine lv_iload_n hx hb dJ5_init_2_49 rfl (lv_at hl 1 rfl) ?_
      obtain ⟨mc8, ms9, hk2, hw⟩ := hw
      refine cl_SR X Y [] [0] rfl rfl rfl E0_bl (fun _ _ _ => trivial) (mtJ8_newBytesFor (Γ := Γ) (l := l) (mc := mc8) (ms := ms9) hw) (lw_S q275 q276 q142 q277) hdJ8_newBytesFor ⟨Nat.le_of_ble_eq_true rfl, Nat.le_of_ble_eq_true rfl⟩ rfl hl.1 rfl (Nat.le_of_ble_eq_true rfl) dJ5_init_2_50 hk2 (fun r u H locs hw Y => ?_)
      obtain ⟨q5, q6, z7⟩ := u
      obtain ⟨rfl, hw⟩ := hw
      have hk : 0 + mc8 ≤ mc ∧ 0 + ms9 ≤ ms := hk2
      have Y : Wo Γ A s H locs [[(q5, .inl (Γ.2.1 3, q6, .inl z7))], [(o, .inr (15, [.null, .int r4, .int 0, .int 0]))]] := Y
      refine ob_put X Y 1 rfl fcJ6 0 (by decide) (X.2.2.2.2.1 _ q282) rfl (by first | rfl | exact op_nar _ | exact op_narA _) (by first | rfl | exact op_fit _ | exact op_fitA _) (Nat.le_of_ble_eq_true rfl) dJ5_init_2_53 (fun H locs Y => ?_)
      have Y : Wo Γ A s H locs [[(q5, .inl (Γ.2.1 3, q6, .inl z7))], [(o, .inr (15, [.ref q5, .int r4, .int 0, .int 0]))]] := Y
      refine lv_aload_n hx hb dJ5_init_2_56 rfl (lv_at hl 2 rfl) ?_
      refine lv_aload_n hx hb dJ5_init_2_57 rfl (lv_at hl 3 rfl) ?_
      obtain ⟨mc14, ms15, hk2, hw⟩ := hw
      refine cv_BR (n := 1) X Y [1, 0] [] rfl rfl rfl (eA_bl eR_bl eN_bl) (fun U hU hW => ⟨((eR_tr.at X hE.1 Y [1, 0] [] rfl rfl) U hU hW), ((eN_tr.at X hE.2 Y [1, 0] [] rfl rfl) U hU hW)⟩) (mtJ6_append_4 (Γ := Γ) (l := l) (mc := mc14) (ms := ms15) hw) (lw_B q1383 q3735 q799 q3742 q1384 q140 q1385) q800 (by decide +kernel) ⟨Nat.le_of_ble_eq_true rfl, Nat.le_of_ble_eq_true rfl⟩ (ob_cell X Y (b := 1) rfl List.mem_cons_self fcJ6) rfl hl.1 rfl (Nat.le_of_ble_eq_true rfl) dJ5_init_2_58 hk2 (fun r u H locs hw Y => ?_)
      obtain ⟨z10, q11, q12, z13⟩ := u
      obtain ⟨rfl, hw⟩ := hw
      have hk : 0 + mc8 + mc14 ≤ mc ∧ 0 + ms9 + ms15 ≤ ms := hk2
      have Y : Wo Γ A s H locs [[(o, .inr (15, [.ref q11, .int r4, .int 0, .int z10]))], [(q11, .inl (Γ.2.1 3, q12, .inl z13))]] := Y
      refine lv_pop hx hb dJ5_init_2_61 rfl ?_
      subst hQ
      exact re_v X Y hr hlk (r4, z10, q11, q12, z13) rfl hw (hk.1) (hk.2) dJ5_init_2_62
    · have hw := hw.1 hc
      refine lv_iload_n hx hb dJ5_init_2_43 rfl (lv_at hl 1 rfl) ?_
      obtain ⟨hn0, hw⟩ := hw
      obtain ⟨m17, hN⟩ : ∃ z : Nat, x3.toNatClampNeg = z := ⟨_, rfl⟩
      obtain ⟨hn1, hk, hw⟩ := hw m17 hN
      refine ar_new3 X Y hn0 hN hn1 hk.1 hk.2 dJ5_init_2_44 (fun q16 H Y => ?_)
      have Y : Wo Γ A s H locs [[(o, .inr (15, [.null, .int r4, .int 0, .int 0]))], [(q16, .inl (Γ.2.1 3, m17, .inl (fun _ => 0)))]] := Y
      have hw := hw q16
      refine lv_goto (tgt := 53) hx hb dJ5_init_2_46 (by decide) ?_
      refine ob_put X Y 0 rfl fcJ6 0 (by decide) (X.2.2.2.2.1 _ q282) rfl (by first | rfl | exact op_nar _ | exact op_narA _) (by first | rfl | exact op_fit _ | exact op_fitA _) (Nat.le_of_ble_eq_true rfl) dJ5_init_2_53 (fun H locs Y => ?_)
      have Y : Wo Γ A s H locs [[(o, .inr (15, [.ref q16, .int r4, .int 0, .int 0]))], [(q16, .inl (Γ.2.1 3, m17, .inl (fun _ => 0)))]] := Y
      refine lv_aload_n hx hb dJ5_init_2_56 rfl (lv_at hl 2 rfl) ?_
      refine lv_aload_n hx hb dJ5_init_2_57 rfl (lv_at hl 3 rfl) ?_
      obtain ⟨mc22, ms23, hk2, hw⟩ := hw
      refine cv_BR (n := 1) X Y [0, 1] [] rfl rfl rfl (eA_bl eR_bl eN_bl) (fun U hU hW => ⟨((eR_tr.at X hE.1 Y [0, 1] [] rfl rfl) U hU hW), ((eN_tr.at X hE.2 Y [0, 1] [] rfl rfl) U hU hW)⟩) (mtJ6_append_4 (Γ := Γ) (l := l) (mc := mc22) (ms := ms23) hw) (lw_B q1383 q3735 q799 q3742 q1384 q140 q1385) q800 (by decide +kernel) ⟨Nat.le_of_ble_eq_true rfl, Nat.le_of_ble_eq_true rfl⟩ (ob_cell X Y (b := 0) rfl List.mem_cons_self fcJ6) rfl hl.1 rfl (Nat.le_of_ble_eq_true rfl) dJ5_init_2_58 hk2 (fun r u H locs hw Y => ?_)
      obtain ⟨z18, q19, q20, z21⟩ := u
      obtain ⟨rfl, hw⟩ := hw
      have hk : 0 + 1 + mc22 ≤ mc ∧ 0 + m17 + ms23 ≤ ms := hk2
      have Y : Wo Γ A s H locs [[(o, .inr (15, [.ref q19, .int r4, .int 0, .int z18]))], [(q19, .inl (Γ.2.1 3, q20, .inl z21))]] := Y
      refine lv_pop hx hb dJ5_init_2_61 rfl ?_
      subst hQ
      exact re_v X Y hr hlk (r4, z18, q19, q20, z21) rfl hw (hk.1) (hk.2) dJ5_init_2_62
  refine lv_icmp_ge (tgt := 22) hx hb dJ5_init_2_12 (by decide) (fun hc => ?_) (fun hc => ?_)
  · have hw := hw.1 hc
    refine lv_ldc (v := 2147483647) hx hb X.2.2.2.1 (X.2.2.2.2.1 _ q759) dJ5_init_2_22 ?_
    exact hJ2 2147483647 H locs ls hw hk Y (lv_sub hl [1, 2] rfl)
  · have hw := hw.2 hc
    refine lv_iload_n hx hb dJ5_init_2_15 rfl (lv_at hl 0 rfl) ?_
    refine lv_bipush (v := 16) hx hb dJ5_init_2_16 rfl ?_
    refine lv_iadd hx hb dJ5_init_2_18 ?_
    refine lv_goto (tgt := 24) hx hb dJ5_init_2_19 (by decide) ?_
    exact hJ2 (r1 + 16) H locs ls hw hk Y (lv_sub hl [1, 2] rfl)
def wpJ6_init_2 (mc ms : Nat) (K : (Int32) → (Int32) → (Nat) → (Nat) → (Nat → Int32) → Prop)  (o : Nat) (sa : Nat) (sv : Nat) (sn : Nat) (sf : Nat → Int32) : Prop := ∃ mc6 ms7 : Nat, (0 + mc6 ≤ mc ∧ 0 + ms7 ≤ ms) ∧ wpJ5_init_2 mc6 ms7 (fun z1 z2 q3 q4 z5 => (K z1 z2 q3 q4 z5))  o sa sv sn sf
abbrev rmJ6_init_2 (mc ms : Nat) : Room := { frames := 8, cells := mc, slots := ms, locals := 193 }
theorem hdJ6_init_2 : yJ6_init_2.cls ≠ "java/lang/invoke/MethodHandle" ∧ yJ6_init_2.cls ≠ "java/lang/invoke/VarHandle" ∧ (parseMethodDescriptor yJ6_init_2.desc).map (fun d => d.parameters.length) = some 1 := by decide +kernel
set_option maxHeartbeats 4000000 in
theorem mtJ6_init_2 {Γ : gT} {l : Launch} {mc ms : Nat} {o : Nat} {sa : Nat} {sv : Nat} {sn : Nat} {sf : Nat → Int32} {K : (Int32) → (Int32) → (Nat) → (Nat) → (Nat → Int32) → Prop}  (hw : wpJ6_init_2 mc ms K  o sa sv sn sf) : cV Γ l yJ6_init_2 (ws_ yJ6_init_2 cJ6_init_2 2 none) (rmJ6_init_2 mc ms) (eA (eR sa sv sn sf) (eN Γ)) [.ref o, .ref sa] [[(o, .inr (15, [.null, .int 0, .int 0, .int 0]))]] (fun u : (Int32) × (Int32) × (Nat) × (Nat) × (Nat → Int32) => [[(o, .inr (15, [.ref u.2.2.1, .int u.1, .int 0, .int u.2.1]))], [(u.2.2.1, .inl (Γ.2.1 3, u.2.2.2.1, .inl u.2.2.2.2))]]) (fun u => K u.1 u.2.1 u.2.2.1 u.2.2.2.1 u.2.2.2.2) := by
  refine cV_of (by decide +kernel) (Nat.le_of_ble_eq_true rfl) ?_
  intro p e s m args below meth c ls A Q hQ X hr hlk hnm hE Y hl
  have hx := X.1
  have hb := X.2.1
  have hl : lv_has ls 2 [(0, .ref o), (1, .ref sa)] := hl
  unfold wpJ6_init_2 at hw
  obtain ⟨H, hH⟩ : ∃ H : Heap, H = s.heap := ⟨_, rfl⟩
  obtain ⟨locs, hlo⟩ : ∃ locs : List Loc, locs = [] := ⟨_, rfl⟩
  rw [← hH, ← hlo] at Y
  rw [← hH, ← hlo]
  have hk : 0 ≤ mc ∧ 0 ≤ ms := ⟨Nat.zero_le _, Nat.zero_le _⟩
  refine lv_aload_n hx hb dJ6_init_2_0 rfl (lv_at hl 0 rfl) ?_
  refine lv_aload_n hx hb dJ6_init_2_1 rfl (lv_at hl 1 rfl) ?_
  obtain ⟨mc6, ms7, hk2, hw⟩ := hw
  refine cl_IV X Y [0] [] rfl rfl rfl (eA_bl eR_bl eN_bl) (fun U hU hW => ⟨((eR_tr.at X hE.1 Y [0] [] rfl rfl) U hU hW), ((eN_tr.at X hE.2 Y [0] [] rfl rfl) U hU hW)⟩) (mtJ5_init_2 (Γ := Γ) (l := l) (mc := mc6) (ms := ms7) hw) (lw_meth q2657) (X.2.2.2.2.1 _ q139) (X.2.2.2.2.1 _ q2655) (X.2.2.2.2.1 _ q2656) rfl hdJ5_init_2 ⟨Nat.le_of_ble_eq_true rfl, Nat.le_of_ble_eq_true rfl⟩ rfl hl.1 rfl (Nat.le_of_ble_eq_true rfl) dJ6_init_2_2 hk2 (fun  u H locs hw Y => ?_)
  obtain ⟨z1, z2, q3, q4, z5⟩ := u
  have hk : 0 + mc6 ≤ mc ∧ 0 + ms7 ≤ ms := hk2
  have Y : Wo Γ A s H locs [[(o, .inr (15, [.ref q3, .int z1, .int 0, .int z2]))], [(q3, .inl (Γ.2.1 3, q4, .inl z5))]] := Y
  subst hQ
  exact re_v X Y hr hlk (z1, z2, q3, q4, z5) rfl hw (hk.1) (hk.2) dJ6_init_2_5
def wpJ5_charAt (K : (Int32) → Prop)  (o : Nat) (cd : Int32) (ml : Int32) (n : Int32) (va : Nat) (cp : Nat) (f : Nat → Int32) (a1 : Int32) : Prop := wpJ7_checkIndex ((cd = 0 → (vp_in a1 cp ∧ (narrow .char (.int ((((f a1.toNatClampNeg) &&& 255).toUInt32 % 65536).toInt32)) = .int ((((f a1.toNatClampNeg) &&& 255).toUInt32 % 65536).toInt32) ∧ K ((((f a1.toNatClampNeg) &&& 255).toUInt32 % 65536).toInt32)))) ∧ (¬ cd = 0 → (wpJ8_getChar (fun r1 => (narrow .char (.int r1) = .int r1 ∧ K r1))  va cp f a1)))  a1 (if ((nI cp) >>> (cd &&& 31)) < n then ((nI cp) >>> (cd &&& 31)) else n)
abbrev rmJ5_charAt : Room := { frames := 2, cells := 0, slots := 0, locals := 43 }
theorem hdJ5_charAt : yJ5_charAt.cls ≠ "java/lang/invoke/MethodHandle" ∧ yJ5_charAt.cls ≠ "java/lang/invoke/VarHandle" ∧ (parseMethodDescriptor yJ5_charAt.desc).map (fun d => d.parameters.length) = some 1 := by decide +kernel
theorem hpJ5_charAt : yJ5_charAt.name ≠ "<init>" ∧ (parseMethodDescriptor yJ5_charAt.desc).map (fun d => d.parameters.length) = some 1 := by decide +kernel
theorem huJ5_charAt : RJ5 ≠ "java/lang/invoke/MethodHandle" ∧ RJ5 ≠ "java/lang/invoke/VarHandle" ∧ (parseMethodDescriptor yJ5_charAt.desc).map (fun d => d.parameters.length) = some 1 := by decide +kernel
set_option maxHeartbeats 4000000 in
theorem mtJ5_charAt {Γ : gT} {l : Launch} {o : Nat} {cd : Int32} {ml : Int32} {n : Int32} {va : Nat} {cp : Nat} {f : Nat → Int32} {a1 : Int32} {K : (Int32) → Prop}  (hw : wpJ5_charAt K  o cd ml n va cp f a1) : cI Γ l yJ5_charAt (ws_ yJ5_charAt cJ5_charAt 5 (some .char)) rmJ5_charAt (eN Γ) [.ref o, .int a1] [[(o, .inr (15, [.ref va, .int cd, .int ml, .int n]))], [(va, .inl (Γ.2.1 3, cp, .inl f))]] (fun u : Unit => [[(o, .inr (15, [.ref va, .int cd, .int ml, .int n]))], [(va, .inl (Γ.2.1 3, cp, .inl f))]]) (fun r u => K r ) := by
  refine cI_of (by decide +kernel) (Nat.le_of_ble_eq_true rfl) ?_
  intro p e s m args below meth c ls A Q hQ X hr hlk hnm hE Y hl
  have hx := X.1
  have hb := X.2.1
  have hl : lv_has ls 5 [(0, .ref o), (1, .int a1)] := hl
  unfold wpJ5_charAt at hw
  obtain ⟨H, hH⟩ : ∃ H : Heap, H = s.heap := ⟨_, rfl⟩
  obtain ⟨locs, hlo⟩ : ∃ locs : List Loc, locs = [] := ⟨_, rfl⟩
  rw [← hH, ← hlo] at Y
  rw [← hH, ← hlo]
  refine lv_aload_n hx hb dJ5_charAt_0 rfl (lv_at hl 0 rfl) ?_
  refine ob_get X Y 0 rfl fcJ6 1 (by decide) (X.2.2.2.2.1 _ q283) rfl dJ5_charAt_1 ?_
  refine lv_istore_n (lv' := [(2, .int cd), (0, .ref o), (1, .int a1)]) hx hb dJ5_charAt_4 rfl hl (by decide) rfl (fun ls hl => ?_)
  refine lv_aload_n hx hb dJ5_charAt_5 rfl (lv_at hl 1 rfl) ?_
  refine ob_get X Y 0 rfl fcJ6 0 (by decide) (X.2.2.2.2.1 _ q282) rfl dJ5_charAt_6 ?_
  refine lv_astore_n (lv' := [(3, .ref va), (2, .int cd), (0, .ref o), (1, .int a1)]) hx hb dJ5_charAt_9 rfl hl (by decide) rfl (fun ls hl => ?_)
  refine lv_aload_n hx hb dJ5_charAt_10 rfl (lv_at hl 2 rfl) ?_
  refine ob_get X Y 0 rfl fcJ6 3 (by decide) (X.2.2.2.2.1 _ q286) rfl dJ5_charAt_11 ?_
  refine lv_aload_n hx hb dJ5_charAt_14 rfl (lv_at hl 0 rfl) ?_
  refine ar_len X Y 1 rfl (t := 3) rfl dJ5_charAt_15 ?_
  refine lv_iload_n hx hb dJ5_charAt_16 rfl (lv_at hl 1 rfl) ?_
  refine lv_ishr hx hb dJ5_charAt_17 ?_
  refine va_mmin hx hb (X.2.2.1.trans hl.1.symm) X.2.2.2.1 (X.2.2.2.2.1 _ q1487) (X.2.2.2.2.1 _ q536) (X.2.2.2.2.1 _ q159) (X.2.2.2.2.1 _ q537) (Nat.le_of_ble_eq_true rfl) (Nat.le_of_ble_eq_true rfl) (Nat.le_of_ble_eq_true rfl) (Nat.le_of_ble_eq_true rfl) dJ5_charAt_18 ?_
  refine lv_istore (lv' := [(4, .int (if ((nI cp) >>> (cd &&& 31)) < n then ((nI cp) >>> (cd &&& 31)) else n)), (3, .ref va), (2, .int cd), (0, .ref o), (1, .int a1)]) hx hb dJ5_charAt_21 hl (by decide) rfl (fun ls hl => ?_)
  refine lv_iload_n hx hb dJ5_charAt_23 rfl (lv_at hl 4 rfl) ?_
  refine lv_iload hx hb dJ5_charAt_24 (lv_at hl 0 rfl) ?_
  refine cl_SV X Y [] [0, 1] rfl rfl rfl eN_bl (fun U hU hW => ((eN_tr.at X hE Y [] [0, 1] rfl rfl) U hU hW)) (mtJ7_checkIndex (Γ := Γ) (l := l) hw) (lw_S q1488 q1454 q141 q1455) hdJ7_checkIndex ⟨Nat.le_of_ble_eq_true rfl, Nat.le_of_ble_eq_true rfl⟩ rfl hl.1 rfl (Nat.le_of_ble_eq_true rfl) dJ5_charAt_26 ⟨Nat.le_of_ble_eq_true rfl, Nat.le_of_ble_eq_true rfl⟩ (fun  u H locs hw Y => ?_)
  have Y : Wo Γ A s H locs [[(o, .inr (15, [.ref va, .int cd, .int ml, .int n]))], [(va, .inl (Γ.2.1 3, cp, .inl f))]] := Y
  refine lv_iload_n hx hb dJ5_charAt_29 rfl (lv_at hl 2 rfl) ?_
  refine lv_if_ne (tgt := 42) hx hb dJ5_charAt_30 (by decide) (fun hc => ?_) (fun hc => ?_)
  · have hw := hw.2 hc
    refine lv_aload_n hx hb dJ5_charAt_42 rfl (lv_at hl 1 rfl) ?_
    refine lv_iload_n hx hb dJ5_charAt_43 rfl (lv_at hl 4 rfl) ?_
    refine cl_SI X Y [1] [0] rfl rfl rfl eN_bl (fun U hU hW => ((eN_tr.at X hE Y [1] [0] rfl rfl) U hU hW)) (mtJ8_getChar (Γ := Γ) (l := l) hw) (lw_S q1489 q568 q142 q569) hdJ8_getChar ⟨Nat.le_of_ble_eq_true rfl, Nat.le_of_ble_eq_true rfl⟩ rfl hl.1 rfl (Nat.le_of_ble_eq_true rfl) dJ5_charAt_44 ⟨Nat.le_of_ble_eq_true rfl, Nat.le_of_ble_eq_true rfl⟩ (fun r1 u H locs hw Y => ?_)
    have Y : Wo Γ A s H locs [[(va, .inl (Γ.2.1 3, cp, .inl f))], [(o, .inr (15, [.ref va, .int cd, .int ml, .int n]))]] := Y
    have Y : Wo Γ A s H locs [[(o, .inr (15, [.ref va, .int cd, .int ml, .int n]))], [(va, .inl (Γ.2.1 3, cp, .inl f))]] := Y.perm [1, 0] rfl rfl
    subst hQ
    exact re_i X Y hr hlk () rfl hw.1 hw.2 (Nat.le_of_ble_eq_true rfl) (Nat.le_of_ble_eq_true rfl) dJ5_charAt_47
  · have hw := hw.1 hc
    refine lv_aload_n hx hb dJ5_charAt_33 rfl (lv_at hl 1 rfl) ?_
    refine lv_iload_n hx hb dJ5_charAt_34 rfl (lv_at hl 4 rfl) ?_
    refine ar_ald3 X Y 1 rfl hw.1 dJ5_charAt_35 ?_
    have hw := hw.2
    refine lv_sipush (v := 255) hx hb dJ5_charAt_36 rfl ?_
    refine lv_iand hx hb dJ5_charAt_39 ?_
    refine lv_i2c hx hb dJ5_charAt_40 rfl ?_
    subst hQ
    exact re_i X Y hr hlk () rfl hw.1 hw.2 (Nat.le_of_ble_eq_true rfl) (Nat.le_of_ble_eq_true rfl) dJ5_charAt_41
def wpJ6_charAt (K : (Int32) → Prop)  (o : Nat) (cd : Int32) (ml : Int32) (n : Int32) (va : Nat) (cp : Nat) (f : Nat → Int32) (a1 : Int32) : Prop := wpJ5_charAt (fun r1 => (narrow .char (.int r1) = .int r1 ∧ K r1))  o cd ml n va cp f a1
abbrev rmJ6_charAt : Room := { frames := 3, cells := 0, slots := 0, locals := 67 }
theorem hdJ6_charAt : yJ6_charAt.cls ≠ "java/lang/invoke/MethodHandle" ∧ yJ6_charAt.cls ≠ "java/lang/invoke/VarHandle" ∧ (parseMethodDescriptor yJ6_charAt.desc).map (fun d => d.parameters.length) = some 1 := by decide +kernel
theorem hpJ6_charAt : yJ6_charAt.name ≠ "<init>" ∧ (parseMethodDescriptor yJ6_charAt.desc).map (fun d => d.parameters.length) = some 1 := by decide +kernel
theorem huJ6_charAt : RJ6 ≠ "java/lang/invoke/MethodHandle" ∧ RJ6 ≠ "java/lang/invoke/VarHandle" ∧ (parseMethodDescriptor yJ6_charAt.desc).map (fun d => d.parameters.length) = some 1 := by decide +kernel
set_option maxHeartbeats 4000000 in
theorem mtJ6_charAt {Γ : gT} {l : Launch} {o : Nat} {cd : Int32} {ml : Int32} {n : Int32} {va : Nat} {cp : Nat} {f : Nat → Int32} {a1 : Int32} {K : (Int32) → Prop}  (hw : wpJ6_charAt K  o cd ml n va cp f a1) : cI Γ l yJ6_charAt (ws_ yJ6_charAt cJ6_charAt 2 (some .char)) rmJ6_charAt (eN Γ) [.ref o, .int a1] [[(o, .inr (15, [.ref va, .int cd, .int ml, .int n]))], [(va, .inl (Γ.2.1 3, cp, .inl f))]] (fun u : Unit => [[(o, .inr (15, [.ref va, .int cd, .int ml, .int n]))], [(va, .inl (Γ.2.1 3, cp, .inl f))]]) (fun r u => K r ) := by
  refine cI_of (by decide +kernel) (Nat.le_of_ble_eq_true rfl) ?_
  intro p e s m args below meth c ls A Q hQ X hr hlk hnm hE Y hl
  have hx := X.1
  have hb := X.2.1
  have hl : lv_has ls 2 [(0, .ref o), (1, .int a1)] := hl
  unfold wpJ6_charAt at hw
  obtain ⟨H, hH⟩ : ∃ H : Heap, H = s.heap := ⟨_, rfl⟩
  obtain ⟨locs, hlo⟩ : ∃ locs : List Loc, locs = [] := ⟨_, rfl⟩
  rw [← hH, ← hlo] at Y
  rw [← hH, ← hlo]
  refine lv_aload_n hx hb dJ6_charAt_0 rfl (lv_at hl 0 rfl) ?_
  refine lv_iload_n hx hb dJ6_charAt_1 rfl (lv_at hl 1 rfl) ?_
  refine cv_PI (ob_at X fcJ6) X Y [0, 1] [] rfl rfl rfl eN_bl (fun U hU hW => ((eN_tr.at X hE Y [0, 1] [] rfl rfl) U hU hW)) (mtJ5_charAt (Γ := Γ) (l := l) hw) (lw_P q1484 q3745 q295 q1485 q139 q1486) hpJ5_charAt ⟨Nat.le_of_ble_eq_true rfl, Nat.le_of_ble_eq_true rfl⟩ (ob_cell X Y (b := 0) rfl List.mem_cons_self fcJ6) rfl hl.1 rfl (Nat.le_of_ble_eq_true rfl) dJ6_charAt_2 ⟨Nat.le_of_ble_eq_true rfl, Nat.le_of_ble_eq_true rfl⟩ (fun r1 u H locs hw Y => ?_)
  have Y : Wo Γ A s H locs [[(o, .inr (15, [.ref va, .int cd, .int ml, .int n]))], [(va, .inl (Γ.2.1 3, cp, .inl f))]] := Y
  subst hQ
  exact re_i X Y hr hlk () rfl hw.1 hw.2 (Nat.le_of_ble_eq_true rfl) (Nat.le_of_ble_eq_true rfl) dJ6_charAt_5
def wpJ5_setLength (mc ms : Nat) (K : (Int32) → (Int32) → (Nat) → (Nat) → (Nat → Int32) → Prop)  (o : Nat) (cd : Int32) (ml : Int32) (n : Int32) (va : Nat) (cp : Nat) (f : Nat → Int32) (a1 : Int32) : Prop := (0 ≤ a1 → (∃ mc4 ms5 : Nat, (0 + mc4 ≤ mc ∧ 0 + ms5 ≤ ms) ∧ wpJ5_ensureCapacityInternal mc4 ms5 (fun q1 q2 z3 => ((a1 ≤ n → ((n ≤ a1 → (K ml a1 q1 q2 z3)) ∧ (¬ n ≤ a1 → (K 1 a1 q1 q2 z3)))) ∧ (¬ a1 ≤ n → (wpJ5_isLatin1 (fun r6 => ((r6 = 0 → (False)) ∧ (¬ r6 = 0 → (False))))  o cd ml n q1 q2 z3))))  o cd ml n va cp f a1)) ∧ (¬ 0 ≤ a1 → (False))
abbrev rmJ5_setLength (mc ms : Nat) : Room := { frames := 4, cells := mc, slots := ms, locals := 104 }
theorem hdJ5_setLength : yJ5_setLength.cls ≠ "java/lang/invoke/MethodHandle" ∧ yJ5_setLength.cls ≠ "java/lang/invoke/VarHandle" ∧ (parseMethodDescriptor yJ5_setLength.desc).map (fun d => d.parameters.length) = some 1 := by decide +kernel
theorem hpJ5_setLength : yJ5_setLength.name ≠ "<init>" ∧ (parseMethodDescriptor yJ5_setLength.desc).map (fun d => d.parameters.length) = some 1 := by decide +kernel
theorem huJ5_setLength : RJ5 ≠ "java/lang/invoke/MethodHandle" ∧ RJ5 ≠ "java/lang/invoke/VarHandle" ∧ (parseMethodDescriptor yJ5_setLength.desc).map (fun d => d.parameters.length) = some 1 := by decide +kernel
set_option maxHeartbeats 4000000 in
theorem mtJ5_setLength {Γ : gT} {l : Launch} {mc ms : Nat} {o : Nat} {cd : Int32} {ml : Int32} {n : Int32} {va : Nat} {cp : Nat} {f : Nat → Int32} {a1 : Int32} {K : (Int32) → (Int32) → (Nat) → (Nat) → (Nat → Int32) → Prop}  (hw : wpJ5_setLength mc ms K  o cd ml n va cp f a1) : cV Γ l yJ5_setLength (ws_ yJ5_setLength cJ5_setLength 2 none) (rmJ5_setLength mc ms) (eN Γ) [.ref o, .int a1] [[(o, .inr (15, [.ref va, .int cd, .int ml, .int n]))], [(va, .inl (Γ.2.1 3, cp, .inl f))]] (fun u : (Int32) × (Int32) × (Nat) × (Nat) × (Nat → Int32) => [[(o, .inr (15, [.ref u.2.2.1, .int cd, .int u.1, .int u.2.1]))], [(u.2.2.1, .inl (Γ.2.1 3, u.2.2.2.1, .inl u.2.2.2.2))]]) (fun u => K u.1 u.2.1 u.2.2.1 u.2.2.2.1 u.2.2.2.2) := by
  refine cV_of (by decide +kernel) (Nat.le_of_ble_eq_true rfl) ?_
  intro p e s m args below meth c ls A Q hQ X hr hlk hnm hE Y hl
  have hx := X.1
  have hb := X.2.1
  have hl : lv_has ls 2 [(0, .ref o), (1, .int a1)] := hl
  unfold wpJ5_setLength at hw
  obtain ⟨H, hH⟩ : ∃ H : Heap, H = s.heap := ⟨_, rfl⟩
  obtain ⟨locs, hlo⟩ : ∃ locs : List Loc, locs = [] := ⟨_, rfl⟩
  rw [← hH, ← hlo] at Y
  rw [← hH, ← hlo]
  have hk : 0 ≤ mc ∧ 0 ≤ ms := ⟨Nat.zero_le _, Nat.zero_le _⟩
  refine lv_iload_n hx hb dJ5_setLength_0 rfl (lv_at hl 1 rfl) ?_
  refine lv_if_ge (tgt := 13) hx hb dJ5_setLength_1 (by decide) (fun hc => ?_) (fun hc => ?_)
  · have hw := hw.1 hc
    refine lv_aload_n hx hb dJ5_setLength_13 rfl (lv_at hl 0 rfl) ?_
    refine lv_iload_n hx hb dJ5_setLength_14 rfl (lv_at hl 1 rfl) ?_
    obtain ⟨mc4, ms5, hk2, hw⟩ := hw
    refine cv_KV X Y [0, 1] [] rfl rfl rfl eN_bl (fun U hU hW => ((eN_tr.at X hE Y [0, 1] [] rfl rfl) U hU hW)) (mtJ5_ensureCapacityInternal (Γ := Γ) (l := l) (mc := mc4) (ms := ms5) hw) (eN_sp hE 3 rfl) q743 q3733 q745 q139 q746 huJ5_ensureCapacityInternal ⟨Nat.le_of_ble_eq_true rfl, Nat.le_of_ble_eq_true rfl⟩ (ob_cell X Y (b := 0) rfl List.mem_cons_self fcJ6) rfl hl.1 rfl (Nat.le_of_ble_eq_true rfl) dJ5_setLength_15 hk2 (fun  u H locs hw Y => ?_)
    obtain ⟨q1, q2, z3⟩ := u
    have hk : 0 + mc4 ≤ mc ∧ 0 + ms5 ≤ ms := hk2
    have Y : Wo Γ A s H locs [[(o, .inr (15, [.ref q1, .int cd, .int ml, .int n]))], [(q1, .inl (Γ.2.1 3, q2, .inl z3))]] := Y
    refine lv_aload_n hx hb dJ5_setLength_18 rfl (lv_at hl 0 rfl) ?_
    refine ob_get X Y 0 rfl fcJ6 3 (by decide) (X.2.2.2.2.1 _ q286) rfl dJ5_setLength_19 ?_
    refine lv_iload_n hx hb dJ5_setLength_22 rfl (lv_at hl 1 rfl) ?_
    refine lv_icmp_ge (tgt := 63) hx hb dJ5_setLength_23 (by decide) (fun hc => ?_) (fun hc => ?_)
    · have hw := hw.1 hc
      refine lv_aload_n hx hb dJ5_setLength_63 rfl (lv_at hl 0 rfl) ?_
      refine ob_get X Y 0 rfl fcJ6 3 (by decide) (X.2.2.2.2.1 _ q286) rfl dJ5_setLength_64 ?_
      refine lv_iload_n hx hb dJ5_setLength_67 rfl (lv_at hl 1 rfl) ?_
      refine lv_icmp_le (tgt := 76) hx hb dJ5_setLength_68 (by decide) (fun hc => ?_) (fun hc => ?_)
      · have hw := hw.1 hc
        refine lv_aload_n hx hb dJ5_setLength_76 rfl (lv_at hl 0 rfl) ?_
        refine lv_iload_n hx hb dJ5_setLength_77 rfl (lv_at hl 1 rfl) ?_
        refine ob_put X Y 0 rfl fcJ6 3 (by decide) (X.2.2.2.2.1 _ q286) rfl rfl rfl (Nat.le_of_ble_eq_true rfl) dJ5_setLength_78 (fun H locs Y => ?_)
        have Y : Wo Γ A s H locs [[(o, .inr (15, [.ref q1, .int cd, .int ml, .int a1]))], [(q1, .inl (Γ.2.1 3, q2, .inl z3))]] := Y
        subst hQ
        exact re_v X Y hr hlk (ml, a1, q1, q2, z3) rfl hw (hk.1) (hk.2) dJ5_setLength_81
      · have hw := hw.2 hc
        refine lv_aload_n hx hb dJ5_setLength_71 rfl (lv_at hl 0 rfl) ?_
        refine lv_iconst (v := 1) hx hb dJ5_setLength_72 rfl ?_
        refine ob_put X Y 0 rfl fcJ6 2 (by decide) (X.2.2.2.2.1 _ q284) rfl rfl rfl (Nat.le_of_ble_eq_true rfl) dJ5_setLength_73 (fun H locs Y => ?_)
        have Y : Wo Γ A s H locs [[(o, .inr (15, [.ref q1, .int cd, .int 1, .int n]))], [(q1, .inl (Γ.2.1 3, q2, .inl z3))]] := Y
        refine lv_aload_n hx hb dJ5_setLength_76 rfl (lv_at hl 0 rfl) ?_
        refine lv_iload_n hx hb dJ5_setLength_77 rfl (lv_at hl 1 rfl) ?_
        refine ob_put X Y 0 rfl fcJ6 3 (by decide) (X.2.2.2.2.1 _ q286) rfl rfl rfl (Nat.le_of_ble_eq_true rfl) dJ5_setLength_78 (fun H locs Y => ?_)
        have Y : Wo Γ A s H locs [[(o, .inr (15, [.ref q1, .int cd, .int 1, .int a1]))], [(q1, .inl (Γ.2.1 3, q2, .inl z3))]] := Y
        subst hQ
        exact re_v X Y hr hlk (1, a1, q1, q2, z3) rfl hw (hk.1) (hk.2) dJ5_setLength_81
    · have hw := hw.2 hc
      refine lv_aload_n hx hb dJ5_setLength_26 rfl (lv_at hl 0 rfl) ?_
      refine cv_UI X Y [0, 1] [] rfl rfl rfl eN_bl (fun U hU hW => ((eN_tr.at X hE Y [0, 1] [] rfl rfl) U hU hW)) (mtJ5_isLatin1 (Γ := Γ) (l := l) hw) (lw_U q774 q671 q672 q670 q139 q673) rfl huJ5_isLatin1 ⟨Nat.le_of_ble_eq_true rfl, Nat.le_of_ble_eq_true rfl⟩ (ob_cell X Y (b := 0) rfl List.mem_cons_self fcJ6) rfl hl.1 rfl (Nat.le_of_ble_eq_true rfl) dJ5_setLength_27 hk (fun r6 u H locs hw Y => ?_)
      have Y : Wo Γ A s H locs [[(o, .inr (15, [.ref q1, .int cd, .int ml, .int n]))], [(q1, .inl (Γ.2.1 3, q2, .inl z3))]] := Y
      refine lv_if_eq (tgt := 48) hx hb dJ5_setLength_30 (by decide) (fun hc => ?_) (fun hc => ?_)
      · have hw := hw.1 hc
        refine lv_aload_n hx hb dJ5_setLength_48 rfl (lv_at hl 0 rfl) ?_
        refine ob_get X Y 0 rfl fcJ6 0 (by decide) (X.2.2.2.2.1 _ q282) rfl dJ5_setLength_49 ?_
        refine lv_aload_n hx hb dJ5_setLength_52 rfl (lv_at hl 0 rfl) ?_
        refine ob_get X Y 0 rfl fcJ6 3 (by decide) (X.2.2.2.2.1 _ q286) rfl dJ5_setLength_53 ?_
        refine lv_iload_n hx hb dJ5_setLength_56 rfl (lv_at hl 1 rfl) ?_
        exact hw.elim
      · have hw := hw.2 hc
        refine lv_aload_n hx hb dJ5_setLength_33 rfl (lv_at hl 0 rfl) ?_
        refine ob_get X Y 0 rfl fcJ6 0 (by decide) (X.2.2.2.2.1 _ q282) rfl dJ5_setLength_34 ?_
        refine lv_aload_n hx hb dJ5_setLength_37 rfl (lv_at hl 0 rfl) ?_
        refine ob_get X Y 0 rfl fcJ6 3 (by decide) (X.2.2.2.2.1 _ q286) rfl dJ5_setLength_38 ?_
        refine lv_iload_n hx hb dJ5_setLength_41 rfl (lv_at hl 1 rfl) ?_
        exact hw.elim
  · have hw := hw.2 hc
    exact hw.elim
def wpJ6_setLength (mc ms : Nat) (K : (Int32) → (Int32) → (Nat) → (Nat) → (Nat → Int32) → Prop)  (o : Nat) (cd : Int32) (ml : Int32) (n : Int32) (va : Nat) (cp : Nat) (f : Nat → Int32) (a1 : Int32) : Prop := ∃ mc6 ms7 : Nat, (0 + mc6 ≤ mc ∧ 0 + ms7 ≤ ms) ∧ wpJ5_setLength mc6 ms7 (fun z1 z2 q3 q4 z5 => (K z1 z2 q3 q4 z5))  o cd ml n va cp f a1
abbrev rmJ6_setLength (mc ms : Nat) : Room := { frames := 5, cells := mc, slots := ms, locals := 125 }
theorem hdJ6_setLength : yJ6_setLength.cls ≠ "java/lang/invoke/MethodHandle" ∧ yJ6_setLength.cls ≠ "java/lang/invoke/VarHandle" ∧ (parseMethodDescriptor yJ6_setLength.desc).map (fun d => d.parameters.length) = some 1 := by decide +kernel
theorem hpJ6_setLength : yJ6_setLength.name ≠ "<init>" ∧ (parseMethodDescriptor yJ6_setLength.desc).map (fun d => d.parameters.length) = some 1 := by decide +kernel
theorem huJ6_setLength : RJ6 ≠ "java/lang/invoke/MethodHandle" ∧ RJ6 ≠ "java/lang/invoke/VarHandle" ∧ (parseMethodDescriptor yJ6_setLength.desc).map (fun d => d.parameters.length) = some 1 := by decide +kernel
set_option maxHeartbeats 4000000 in
theorem mtJ6_setLength {Γ : gT} {l : Launch} {mc ms : Nat} {o : Nat} {cd : Int32} {ml : Int32} {n : Int32} {va : Nat} {cp : Nat} {f : Nat → Int32} {a1 : Int32} {K : (Int32) → (Int32) → (Nat) → (Nat) → (Nat → Int32) → Prop}  (hw : wpJ6_setLength mc ms K  o cd ml n va cp f a1) : cV Γ l yJ6_setLength (ws_ yJ6_setLength cJ6_setLength 2 none) (rmJ6_setLength mc ms) (eN Γ) [.ref o, .int a1] [[(o, .inr (15, [.ref va, .int cd, .int ml, .int n]))], [(va, .inl (Γ.2.1 3, cp, .inl f))]] (fun u : (Int32) × (Int32) × (Nat) × (Nat) × (Nat → Int32) => [[(o, .inr (15, [.ref u.2.2.1, .int cd, .int u.1, .int u.2.1]))], [(u.2.2.1, .inl (Γ.2.1 3, u.2.2.2.1, .inl u.2.2.2.2))]]) (fun u => K u.1 u.2.1 u.2.2.1 u.2.2.2.1 u.2.2.2.2) := by
  refine cV_of (by decide +kernel) (Nat.le_of_ble_eq_true rfl) ?_
  intro p e s m args below meth c ls A Q hQ X hr hlk hnm hE Y hl
  have hx := X.1
  have hb := X.2.1
  have hl : lv_has ls 2 [(0, .ref o), (1, .int a1)] := hl
  unfold wpJ6_setLength at hw
  obtain ⟨H, hH⟩ : ∃ H : Heap, H = s.heap := ⟨_, rfl⟩
  obtain ⟨locs, hlo⟩ : ∃ locs : List Loc, locs = [] := ⟨_, rfl⟩
  rw [← hH, ← hlo] at Y
  rw [← hH, ← hlo]
  have hk : 0 ≤ mc ∧ 0 ≤ ms := ⟨Nat.zero_le _, Nat.zero_le _⟩
  refine lv_aload_n hx hb dJ6_setLength_0 rfl (lv_at hl 0 rfl) ?_
  refine lv_iload_n hx hb dJ6_setLength_1 rfl (lv_at hl 1 rfl) ?_
  obtain ⟨mc6, ms7, hk2, hw⟩ := hw
  refine cv_PV (ob_at X fcJ6) X Y [0, 1] [] rfl rfl rfl eN_bl (fun U hU hW => ((eN_tr.at X hE Y [0, 1] [] rfl rfl) U hU hW)) (mtJ5_setLength (Γ := Γ) (l := l) (mc := mc6) (ms := ms7) hw) (lw_P q1981 q3747 q295 q1982 q139 q1983) hpJ5_setLength ⟨Nat.le_of_ble_eq_true rfl, Nat.le_of_ble_eq_true rfl⟩ (ob_cell X Y (b := 0) rfl List.mem_cons_self fcJ6) rfl hl.1 rfl (Nat.le_of_ble_eq_true rfl) dJ6_setLength_2 hk2 (fun  u H locs hw Y => ?_)
  obtain ⟨z1, z2, q3, q4, z5⟩ := u
  have hk : 0 + mc6 ≤ mc ∧ 0 + ms7 ≤ ms := hk2
  have Y : Wo Γ A s H locs [[(o, .inr (15, [.ref q3, .int cd, .int z1, .int z2]))], [(q3, .inl (Γ.2.1 3, q4, .inl z5))]] := Y
  subst hQ
  exact re_v X Y hr hlk (z1, z2, q3, q4, z5) rfl hw (hk.1) (hk.2) dJ6_setLength_5
