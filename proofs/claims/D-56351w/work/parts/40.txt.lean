set_option maxRecDepth 100000
/-! texts: walks, printed by tools/gen_txt.py -/
def wpJ21_newLength (K : (Int32) → Prop)  (a1 : Int32) (a2 : Int32) (a3 : Int32) : Prop := ∃ J1 : Prop, (J1 → (False)) ∧ (((a1 + (if a2 < a3 then a3 else a2)) ≤ (0 : Int32) → (J1)) ∧ (¬ (a1 + (if a2 < a3 then a3 else a2)) ≤ (0 : Int32) → ((2147483639 < (a1 + (if a2 < a3 then a3 else a2)) → (J1)) ∧ (¬ 2147483639 < (a1 + (if a2 < a3 then a3 else a2)) → (K (a1 + (if a2 < a3 then a3 else a2)))))))
abbrev rmJ21_newLength : Room := { frames := 1, cells := 0, slots := 0, locals := 22 }
theorem hdJ21_newLength : yJ21_newLength.cls ≠ "java/lang/invoke/MethodHandle" ∧ yJ21_newLength.cls ≠ "java/lang/invoke/VarHandle" ∧ (parseMethodDescriptor yJ21_newLength.desc).map (fun d => d.parameters.length) = some 3 := by decide +kernel
set_option maxHeartbeats 4000000 in
theorem mtJ21_newLength {Γ : gT} {l : Launch} {a1 : Int32} {a2 : Int32} {a3 : Int32} {K : (Int32) → Prop}  (hw : wpJ21_newLength K  a1 a2 a3) : cI Γ l yJ21_newLength (ws_ yJ21_newLength cJ21_newLength 4 (some .int)) rmJ21_newLength E0 [.int a1, .int a2, .int a3] [] (fun u : Unit => []) (fun r u => K r ) := by
  refine cI_of (by decide +kernel) (Nat.le_of_ble_eq_true rfl) ?_
  intro p e s m args below meth c ls A Q hQ X hr hlk hnm hE Y hl
  have hx := X.1
  have hb := X.2.1
  have hl : lv_has ls 4 [(0, .int a1), (1, .int a2), (2, .int a3)] := hl
  unfold wpJ21_newLength at hw
  obtain ⟨H, hH⟩ : ∃ H : Heap, H = s.heap := ⟨_, rfl⟩
  obtain ⟨locs, hlo⟩ : ∃ locs : List Loc, locs = [] := ⟨_, rfl⟩
  rw [← hH, ← hlo] at Y
  rw [← hH, ← hlo]
  refine lv_iload_n hx hb dJ21_newLength_0 rfl (lv_at hl 0 rfl) ?_
  refine lv_iload_n hx hb dJ21_newLength_1 rfl (lv_at hl 1 rfl) ?_
  refine lv_iload_n hx hb dJ21_newLength_2 rfl (lv_at hl 2 rfl) ?_
  refine va_mmax hx hb (X.2.2.1.trans hl.1.symm) X.2.2.2.1 (X.2.2.2.2.1 _ q754) (X.2.2.2.2.1 _ q533) (X.2.2.2.2.1 _ q159) (X.2.2.2.2.1 _ q534) (Nat.le_of_ble_eq_true rfl) (Nat.le_of_ble_eq_true rfl) (Nat.le_of_ble_eq_true rfl) (Nat.le_of_ble_eq_true rfl) dJ21_newLength_3 ?_
  refine lv_iadd hx hb dJ21_newLength_6 ?_
  refine lv_istore_n (lv' := [(3, .int (a1 + (if a2 < a3 then a3 else a2))), (0, .int a1), (1, .int a2), (2, .int a3)]) hx hb dJ21_newLength_7 rfl hl (by decide) rfl (fun ls hl => ?_)
  refine lv_iconst (v := 0) hx hb dJ21_newLength_8 rfl ?_
  refine lv_iload_n hx hb dJ21_newLength_9 rfl (lv_at hl 0 rfl) ?_
  obtain ⟨J1, hwR, hw⟩ := hw
  have hJ1 : ∀ (H : Heap) (locs : List Loc) (ls : Array Slot), J1  → Wo Γ A s H locs [] → lv_has ls 4 [(0, .int a1), (1, .int a2)] → W p l e rmJ21_newLength s m args below meth c H locs 0 0 Q (F0 m 21 ls []) := by
    intro  H locs ls hw Y hl
    have hw := hwR  hw
    refine lv_iload_n hx hb dJ21_newLength_21 rfl (lv_at hl 0 rfl) ?_
    refine lv_iload_n hx hb dJ21_newLength_22 rfl (lv_at hl 1 rfl) ?_
    exact hw.elim
  refine lv_icmp_ge (tgt := 21) hx hb dJ21_newLength_10 (by decide) (fun hc => ?_) (fun hc => ?_)
  · have hw := hw.1 hc
    exact hJ1  H locs ls hw Y (lv_sub hl [1, 2] rfl)
  · have hw := hw.2 hc
    refine lv_iload_n hx hb dJ21_newLength_13 rfl (lv_at hl 0 rfl) ?_
    refine lv_ldc (v := 2147483639) hx hb X.2.2.2.1 (X.2.2.2.2.1 _ q755) dJ21_newLength_14 ?_
    refine lv_icmp_gt (tgt := 21) hx hb dJ21_newLength_16 (by decide) (fun hc => ?_) (fun hc => ?_)
    · have hw := hw.1 hc
      exact hJ1  H locs ls hw Y (lv_sub hl [1, 2] rfl)
    · have hw := hw.2 hc
      refine lv_iload_n hx hb dJ21_newLength_19 rfl (lv_at hl 0 rfl) ?_
      subst hQ
      exact re_i X Y hr hlk () rfl rfl hw (Nat.le_of_ble_eq_true rfl) (Nat.le_of_ble_eq_true rfl) dJ21_newLength_20
def wpJ24_checkIndex (K : (Int32) → Prop)  (a1 : Int32) (a2 : Int32) (bf : Option Nat) : Prop := ∃ J1 : Prop, (J1 → (False)) ∧ ((a1 < 0 → (J1)) ∧ (¬ a1 < 0 → ((a1 < a2 → (K a1)) ∧ (¬ a1 < a2 → (J1)))))
abbrev rmJ24_checkIndex : Room := { frames := 0, cells := 0, slots := 0, locals := 0 }
theorem hdJ24_checkIndex : yJ24_checkIndex.cls ≠ "java/lang/invoke/MethodHandle" ∧ yJ24_checkIndex.cls ≠ "java/lang/invoke/VarHandle" ∧ (parseMethodDescriptor yJ24_checkIndex.desc).map (fun d => d.parameters.length) = some 3 := by decide +kernel
set_option maxHeartbeats 4000000 in
theorem mtJ24_checkIndex {Γ : gT} {l : Launch} {a1 : Int32} {a2 : Int32} {bf : Option Nat} {K : (Int32) → Prop}  (hw : wpJ24_checkIndex K  a1 a2 bf) : cI Γ l yJ24_checkIndex (ws_ yJ24_checkIndex cJ24_checkIndex 3 (some .int)) rmJ24_checkIndex E0 [.int a1, .int a2, va_rf bf] [] (fun u : Unit => []) (fun r u => K r ) := by
  refine cI_of (by decide +kernel) (by cases bf <;> exact Nat.le_of_ble_eq_true rfl) ?_
  intro p e s m args below meth c ls A Q hQ X hr hlk hnm hE Y hl
  have hx := X.1
  have hb := X.2.1
  have hl : lv_has ls 3 [(0, .int a1), (1, .int a2), (2, va_rf bf)] := (by first | exact hl | (simp only [lv_args, va_rf_cat, Value.category] at hl; exact hl))
  unfold wpJ24_checkIndex at hw
  obtain ⟨H, hH⟩ : ∃ H : Heap, H = s.heap := ⟨_, rfl⟩
  obtain ⟨locs, hlo⟩ : ∃ locs : List Loc, locs = [] := ⟨_, rfl⟩
  rw [← hH, ← hlo] at Y
  rw [← hH, ← hlo]
  refine lv_iload_n hx hb dJ24_checkIndex_0 rfl (lv_at hl 0 rfl) ?_
  obtain ⟨J1, hwR, hw⟩ := hw
  have hJ1 : ∀ (H : Heap) (locs : List Loc) (ls : Array Slot), J1  → Wo Γ A s H locs [] → lv_has ls 3 [(0, .int a1), (1, .int a2), (2, va_rf bf)] → W p l e rmJ24_checkIndex s m args below meth c H locs 0 0 Q (F0 m 9 ls []) := by
    intro  H locs ls hw Y hl
    have hw := hwR  hw
    refine op_aload_n hx hb dJ24_checkIndex_9 rfl (lv_at hl 2 rfl) ?_
    refine lv_iload_n hx hb dJ24_checkIndex_10 rfl (lv_at hl 0 rfl) ?_
    refine lv_iload_n hx hb dJ24_checkIndex_11 rfl (lv_at hl 1 rfl) ?_
    exact hw.elim
  refine lv_if_lt (tgt := 9) hx hb dJ24_checkIndex_1 (by decide) (fun hc => ?_) (fun hc => ?_)
  · have hw := hw.1 hc
    exact hJ1  H locs ls hw Y (lv_sub hl [0, 1, 2] rfl)
  · have hw := hw.2 hc
    refine lv_iload_n hx hb dJ24_checkIndex_4 rfl (lv_at hl 0 rfl) ?_
    refine lv_iload_n hx hb dJ24_checkIndex_5 rfl (lv_at hl 1 rfl) ?_
    refine lv_icmp_lt (tgt := 16) hx hb dJ24_checkIndex_6 (by decide) (fun hc => ?_) (fun hc => ?_)
    · have hw := hw.1 hc
      refine lv_iload_n hx hb dJ24_checkIndex_16 rfl (lv_at hl 0 rfl) ?_
      subst hQ
      exact re_i X Y hr hlk () rfl rfl hw (Nat.le_of_ble_eq_true rfl) (Nat.le_of_ble_eq_true rfl) dJ24_checkIndex_17
    · have hw := hw.2 hc
      exact hJ1  H locs ls hw Y (lv_sub hl [0, 1, 2] rfl)
def wpJ7_isLatin1 (K : (Int32) → Prop)  (sa : Nat) (sv : Nat) (sn : Nat) (sf : Nat → Int32) : Prop := ((1 : Int32) = 0 → (K 0)) ∧ (¬ (1 : Int32) = 0 → (((0 : Int32) = 0 → (K 1)) ∧ (¬ (0 : Int32) = 0 → (K 0))))
abbrev rmJ7_isLatin1 : Room := { frames := 0, cells := 0, slots := 0, locals := 0 }
theorem hdJ7_isLatin1 : yJ7_isLatin1.cls ≠ "java/lang/invoke/MethodHandle" ∧ yJ7_isLatin1.cls ≠ "java/lang/invoke/VarHandle" ∧ (parseMethodDescriptor yJ7_isLatin1.desc).map (fun d => d.parameters.length) = some 0 := by decide +kernel
theorem hpJ7_isLatin1 : yJ7_isLatin1.name ≠ "<init>" ∧ (parseMethodDescriptor yJ7_isLatin1.desc).map (fun d => d.parameters.length) = some 0 := by decide +kernel
theorem huJ7_isLatin1 : RJ7 ≠ "java/lang/invoke/MethodHandle" ∧ RJ7 ≠ "java/lang/invoke/VarHandle" ∧ (parseMethodDescriptor yJ7_isLatin1.desc).map (fun d => d.parameters.length) = some 0 := by decide +kernel
set_option maxHeartbeats 4000000 in
theorem mtJ7_isLatin1 {Γ : gT} {l : Launch} {sa : Nat} {sv : Nat} {sn : Nat} {sf : Nat → Int32} {K : (Int32) → Prop}  (hw : wpJ7_isLatin1 K  sa sv sn sf) : cI Γ l yJ7_isLatin1 (ws_ yJ7_isLatin1 cJ7_isLatin1 1 (some .boolean)) rmJ7_isLatin1 (eA (eR sa sv sn sf) (eN Γ)) [.ref sa] [] (fun u : Unit => []) (fun r u => K r ) := by
  refine cI_of (by decide +kernel) (Nat.le_of_ble_eq_true rfl) ?_
  intro p e s m args below meth c ls A Q hQ X hr hlk hnm hE Y hl
  have hx := X.1
  have hb := X.2.1
  have hl : lv_has ls 1 [(0, .ref sa)] := hl
  unfold wpJ7_isLatin1 at hw
  obtain ⟨H, hH⟩ : ∃ H : Heap, H = s.heap := ⟨_, rfl⟩
  obtain ⟨locs, hlo⟩ : ∃ locs : List Loc, locs = [] := ⟨_, rfl⟩
  rw [← hH, ← hlo] at Y
  rw [← hH, ← hlo]
  refine st_getI X Y hE.2 0 rfl (X.2.2.2.2.1 _ q517) dJ7_isLatin1_0 ?_
  refine lv_if_eq (tgt := 17) hx hb dJ7_isLatin1_3 (by decide) (fun hc => ?_) (fun hc => ?_)
  · have hw := hw.1 hc
    refine lv_iconst (v := 0) hx hb dJ7_isLatin1_17 rfl ?_
    subst hQ
    exact re_i X Y hr hlk () rfl rfl hw (Nat.le_of_ble_eq_true rfl) (Nat.le_of_ble_eq_true rfl) dJ7_isLatin1_18
  · have hw := hw.2 hc
    refine lv_aload_n hx hb dJ7_isLatin1_6 rfl (lv_at hl 0 rfl) ?_
    refine vk_getf hx hb hE.1.2.1 Y.2.2 X.2.2.2.1 (X.2.2.2.2.1 _ q880) (fun _ h => h) dJ7_isLatin1_7 ?_
    refine lv_if_ne (tgt := 17) hx hb dJ7_isLatin1_10 (by decide) (fun hc => ?_) (fun hc => ?_)
    · have hw := hw.2 hc
      refine lv_iconst (v := 0) hx hb dJ7_isLatin1_17 rfl ?_
      subst hQ
      exact re_i X Y hr hlk () rfl rfl hw (Nat.le_of_ble_eq_true rfl) (Nat.le_of_ble_eq_true rfl) dJ7_isLatin1_18
    · have hw := hw.1 hc
      refine lv_iconst (v := 1) hx hb dJ7_isLatin1_13 rfl ?_
      refine lv_goto (tgt := 18) hx hb dJ7_isLatin1_14 (by decide) ?_
      subst hQ
      exact re_i X Y hr hlk () rfl rfl hw (Nat.le_of_ble_eq_true rfl) (Nat.le_of_ble_eq_true rfl) dJ7_isLatin1_18
def wpJ7_coder (K : (Int32) → Prop)  (sa : Nat) (sv : Nat) (sn : Nat) (sf : Nat → Int32) : Prop := ((1 : Int32) = 0 → (K 1)) ∧ (¬ (1 : Int32) = 0 → (K 0))
abbrev rmJ7_coder : Room := { frames := 0, cells := 0, slots := 0, locals := 0 }
theorem hdJ7_coder : yJ7_coder.cls ≠ "java/lang/invoke/MethodHandle" ∧ yJ7_coder.cls ≠ "java/lang/invoke/VarHandle" ∧ (parseMethodDescriptor yJ7_coder.desc).map (fun d => d.parameters.length) = some 0 := by decide +kernel
theorem hpJ7_coder : yJ7_coder.name ≠ "<init>" ∧ (parseMethodDescriptor yJ7_coder.desc).map (fun d => d.parameters.length) = some 0 := by decide +kernel
theorem huJ7_coder : RJ7 ≠ "java/lang/invoke/MethodHandle" ∧ RJ7 ≠ "java/lang/invoke/VarHandle" ∧ (parseMethodDescriptor yJ7_coder.desc).map (fun d => d.parameters.length) = some 0 := by decide +kernel
set_option maxHeartbeats 4000000 in
theorem mtJ7_coder {Γ : gT} {l : Launch} {sa : Nat} {sv : Nat} {sn : Nat} {sf : Nat → Int32} {K : (Int32) → Prop}  (hw : wpJ7_coder K  sa sv sn sf) : cI Γ l yJ7_coder (ws_ yJ7_coder cJ7_coder 1 (some .byte)) rmJ7_coder (eA (eR sa sv sn sf) (eN Γ)) [.ref sa] [] (fun u : Unit => []) (fun r u => K r ) := by
  refine cI_of (by decide +kernel) (Nat.le_of_ble_eq_true rfl) ?_
  intro p e s m args below meth c ls A Q hQ X hr hlk hnm hE Y hl
  have hx := X.1
  have hb := X.2.1
  have hl : lv_has ls 1 [(0, .ref sa)] := hl
  unfold wpJ7_coder at hw
  obtain ⟨H, hH⟩ : ∃ H : Heap, H = s.heap := ⟨_, rfl⟩
  obtain ⟨locs, hlo⟩ : ∃ locs : List Loc, locs = [] := ⟨_, rfl⟩
  rw [← hH, ← hlo] at Y
  rw [← hH, ← hlo]
  refine st_getI X Y hE.2 0 rfl (X.2.2.2.2.1 _ q517) dJ7_coder_0 ?_
  refine lv_if_eq (tgt := 13) hx hb dJ7_coder_3 (by decide) (fun hc => ?_) (fun hc => ?_)
  · have hw := hw.1 hc
    refine lv_iconst (v := 1) hx hb dJ7_coder_13 rfl ?_
    subst hQ
    exact re_i X Y hr hlk () rfl rfl hw (Nat.le_of_ble_eq_true rfl) (Nat.le_of_ble_eq_true rfl) dJ7_coder_14
  · have hw := hw.2 hc
    refine lv_aload_n hx hb dJ7_coder_6 rfl (lv_at hl 0 rfl) ?_
    refine vk_getf hx hb hE.1.2.1 Y.2.2 X.2.2.2.1 (X.2.2.2.2.1 _ q880) (fun _ h => h) dJ7_coder_7 ?_
    refine lv_goto (tgt := 14) hx hb dJ7_coder_10 (by decide) ?_
    subst hQ
    exact re_i X Y hr hlk () rfl rfl hw (Nat.le_of_ble_eq_true rfl) (Nat.le_of_ble_eq_true rfl) dJ7_coder_14
def wpJ7_length (K : (Int32) → Prop)  (sa : Nat) (sv : Nat) (sn : Nat) (sf : Nat → Int32) : Prop := wpJ7_coder (fun r1 => (K ((nI sn) >>> (r1 &&& 31))))  sa sv sn sf
abbrev rmJ7_length : Room := { frames := 1, cells := 0, slots := 0, locals := 20 }
theorem hdJ7_length : yJ7_length.cls ≠ "java/lang/invoke/MethodHandle" ∧ yJ7_length.cls ≠ "java/lang/invoke/VarHandle" ∧ (parseMethodDescriptor yJ7_length.desc).map (fun d => d.parameters.length) = some 0 := by decide +kernel
theorem hpJ7_length : yJ7_length.name ≠ "<init>" ∧ (parseMethodDescriptor yJ7_length.desc).map (fun d => d.parameters.length) = some 0 := by decide +kernel
theorem huJ7_length : RJ7 ≠ "java/lang/invoke/MethodHandle" ∧ RJ7 ≠ "java/lang/invoke/VarHandle" ∧ (parseMethodDescriptor yJ7_length.desc).map (fun d => d.parameters.length) = some 0 := by decide +kernel
set_option maxHeartbeats 4000000 in
theorem mtJ7_length {Γ : gT} {l : Launch} {sa : Nat} {sv : Nat} {sn : Nat} {sf : Nat → Int32} {K : (Int32) → Prop}  (hw : wpJ7_length K  sa sv sn sf) : cI Γ l yJ7_length (ws_ yJ7_length cJ7_length 1 (some .int)) rmJ7_length (eA (eR sa sv sn sf) (eN Γ)) [.ref sa] [] (fun u : Unit => []) (fun r u => K r ) := by
  refine cI_of (by decide +kernel) (Nat.le_of_ble_eq_true rfl) ?_
  intro p e s m args below meth c ls A Q hQ X hr hlk hnm hE Y hl
  have hx := X.1
  have hb := X.2.1
  have hl : lv_has ls 1 [(0, .ref sa)] := hl
  unfold wpJ7_length at hw
  obtain ⟨H, hH⟩ : ∃ H : Heap, H = s.heap := ⟨_, rfl⟩
  obtain ⟨locs, hlo⟩ : ∃ locs : List Loc, locs = [] := ⟨_, rfl⟩
  rw [← hH, ← hlo] at Y
  rw [← hH, ← hlo]
  refine lv_aload_n hx hb dJ7_length_0 rfl (lv_at hl 0 rfl) ?_
  refine vk_getf hx hb hE.1.2.2.1 Y.2.2 X.2.2.2.1 (X.2.2.2.2.1 _ q879) (fun _ h => h) dJ7_length_1 ?_
  refine ro_len X Y (eR_arr hE.1) dJ7_length_4 ?_
  refine lv_aload_n hx hb dJ7_length_5 rfl (lv_at hl 0 rfl) ?_
  refine cv_VI X Y [] [] rfl rfl rfl (eA_bl eR_bl eN_bl) (fun U hU hW => ⟨((eR_tr.at X hE.1 Y [] [] rfl rfl) U hU hW), ((eN_tr.at X hE.2 Y [] [] rfl rfl) U hU hW)⟩) (mtJ7_coder (Γ := Γ) (l := l) hw) (lw_V q522 q523 q524 q141 q525) ⟨rfl, hdJ7_coder⟩ ⟨Nat.le_of_ble_eq_true rfl, Nat.le_of_ble_eq_true rfl⟩ (ro_recv Y hE.1) rfl hl.1 rfl (Nat.le_of_ble_eq_true rfl) dJ7_length_6 ⟨Nat.le_of_ble_eq_true rfl, Nat.le_of_ble_eq_true rfl⟩ (fun r1 u H locs hw Y => ?_)
  have Y : Wo Γ A s H locs [] := Y
  refine lv_ishr hx hb dJ7_length_9 ?_
  subst hQ
  exact re_i X Y hr hlk () rfl rfl hw (Nat.le_of_ble_eq_true rfl) (Nat.le_of_ble_eq_true rfl) dJ7_length_10
def wpJ5_isLatin1 (K : (Int32) → Prop)  (o : Nat) (cd : Int32) (ml : Int32) (n : Int32) (va : Nat) (cp : Nat) (f : Nat → Int32) : Prop := ((1 : Int32) = 0 → (K 0)) ∧ (¬ (1 : Int32) = 0 → ((cd = 0 → (K 1)) ∧ (¬ cd = 0 → (K 0))))
abbrev rmJ5_isLatin1 : Room := { frames := 0, cells := 0, slots := 0, locals := 0 }
theorem hdJ5_isLatin1 : yJ5_isLatin1.cls ≠ "java/lang/invoke/MethodHandle" ∧ yJ5_isLatin1.cls ≠ "java/lang/invoke/VarHandle" ∧ (parseMethodDescriptor yJ5_isLatin1.desc).map (fun d => d.parameters.length) = some 0 := by decide +kernel
theorem hpJ5_isLatin1 : yJ5_isLatin1.name ≠ "<init>" ∧ (parseMethodDescriptor yJ5_isLatin1.desc).map (fun d => d.parameters.length) = some 0 := by decide +kernel
theorem huJ5_isLatin1 : RJ5 ≠ "java/lang/invoke/MethodHandle" ∧ RJ5 ≠ "java/lang/invoke/VarHandle" ∧ (parseMethodDescriptor yJ5_isLatin1.desc).map (fun d => d.parameters.length) = some 0 := by decide +kernel
set_option maxHeartbeats 4000000 in
theorem mtJ5_isLatin1 {Γ : gT} {l : Launch} {o : Nat} {cd : Int32} {ml : Int32} {n : Int32} {va : Nat} {cp : Nat} {f : Nat → Int32} {K : (Int32) → Prop}  (hw : wpJ5_isLatin1 K  o cd ml n va cp f) : cI Γ l yJ5_isLatin1 (ws_ yJ5_isLatin1 cJ5_isLatin1 1 (some .boolean)) rmJ5_isLatin1 (eN Γ) [.ref o] [[(o, .inr (15, [.ref va, .int cd, .int ml, .int n]))], [(va, .inl (Γ.2.1 3, cp, .inl f))]] (fun u : Unit => [[(o, .inr (15, [.ref va, .int cd, .int ml, .int n]))], [(va, .inl (Γ.2.1 3, cp, .inl f))]]) (fun r u => K r ) := by
  refine cI_of (by decide +kernel) (Nat.le_of_ble_eq_true rfl) ?_
  intro p e s m args below meth c ls A Q hQ X hr hlk hnm hE Y hl
  have hx := X.1
  have hb := X.2.1
  have hl : lv_has ls 1 [(0, .ref o)] := hl
  unfold wpJ5_isLatin1 at hw
  obtain ⟨H, hH⟩ : ∃ H : Heap, H = s.heap := ⟨_, rfl⟩
  obtain ⟨locs, hlo⟩ : ∃ locs : List Loc, locs = [] := ⟨_, rfl⟩
  rw [← hH, ← hlo] at Y
  rw [← hH, ← hlo]
  refine st_getI X Y hE 0 rfl (X.2.2.2.2.1 _ q273) dJ5_isLatin1_0 ?_
  refine lv_if_eq (tgt := 17) hx hb dJ5_isLatin1_3 (by decide) (fun hc => ?_) (fun hc => ?_)
  · have hw := hw.1 hc
    refine lv_iconst (v := 0) hx hb dJ5_isLatin1_17 rfl ?_
    subst hQ
    exact re_i X Y hr hlk () rfl rfl hw (Nat.le_of_ble_eq_true rfl) (Nat.le_of_ble_eq_true rfl) dJ5_isLatin1_18
  · have hw := hw.2 hc
    refine lv_aload_n hx hb dJ5_isLatin1_6 rfl (lv_at hl 0 rfl) ?_
    refine ob_get X Y 0 rfl fcJ6 1 (by decide) (X.2.2.2.2.1 _ q283) rfl dJ5_isLatin1_7 ?_
    refine lv_if_ne (tgt := 17) hx hb dJ5_isLatin1_10 (by decide) (fun hc => ?_) (fun hc => ?_)
    · have hw := hw.2 hc
      refine lv_iconst (v := 0) hx hb dJ5_isLatin1_17 rfl ?_
      subst hQ
      exact re_i X Y hr hlk () rfl rfl hw (Nat.le_of_ble_eq_true rfl) (Nat.le_of_ble_eq_true rfl) dJ5_isLatin1_18
    · have hw := hw.1 hc
      refine lv_iconst (v := 1) hx hb dJ5_isLatin1_13 rfl ?_
      refine lv_goto (tgt := 18) hx hb dJ5_isLatin1_14 (by decide) ?_
      subst hQ
      exact re_i X Y hr hlk () rfl rfl hw (Nat.le_of_ble_eq_true rfl) (Nat.le_of_ble_eq_true rfl) dJ5_isLatin1_18
def wpJ5_length (K : (Int32) → Prop)  (o : Nat) (cd : Int32) (ml : Int32) (n : Int32) (va : Nat) (cp : Nat) (f : Nat → Int32) : Prop := K n
abbrev rmJ5_length : Room := { frames := 0, cells := 0, slots := 0, locals := 0 }
theorem hdJ5_length : yJ5_length.cls ≠ "java/lang/invoke/MethodHandle" ∧ yJ5_length.cls ≠ "java/lang/invoke/VarHandle" ∧ (parseMethodDescriptor yJ5_length.desc).map (fun d => d.parameters.length) = some 0 := by decide +kernel
theorem hpJ5_length : yJ5_length.name ≠ "<init>" ∧ (parseMethodDescriptor yJ5_length.desc).map (fun d => d.parameters.length) = some 0 := by decide +kernel
theorem huJ5_length : RJ5 ≠ "java/lang/invoke/MethodHandle" ∧ RJ5 ≠ "java/lang/invoke/VarHandle" ∧ (parseMethodDescriptor yJ5_length.desc).map (fun d => d.parameters.length) = some 0 := by decide +kernel
set_option maxHeartbeats 4000000 in
theorem mtJ5_length {Γ : gT} {l : Launch} {o : Nat} {cd : Int32} {ml : Int32} {n : Int32} {va : Nat} {cp : Nat} {f : Nat → Int32} {K : (Int32) → Prop}  (hw : wpJ5_length K  o cd ml n va cp f) : cI Γ l yJ5_length (ws_ yJ5_length cJ5_length 1 (some .int)) rmJ5_length E0 [.ref o] [[(o, .inr (15, [.ref va, .int cd, .int ml, .int n]))], [(va, .inl (Γ.2.1 3, cp, .inl f))]] (fun u : Unit => [[(o, .inr (15, [.ref va, .int cd, .int ml, .int n]))], [(va, .inl (Γ.2.1 3, cp, .inl f))]]) (fun r u => K r ) := by
  refine cI_of (by decide +kernel) (Nat.le_of_ble_eq_true rfl) ?_
  intro p e s m args below meth c ls A Q hQ X hr hlk hnm hE Y hl
  have hx := X.1
  have hb := X.2.1
  have hl : lv_has ls 1 [(0, .ref o)] := hl
  unfold wpJ5_length at hw
  obtain ⟨H, hH⟩ : ∃ H : Heap, H = s.heap := ⟨_, rfl⟩
  obtain ⟨locs, hlo⟩ : ∃ locs : List Loc, locs = [] := ⟨_, rfl⟩
  rw [← hH, ← hlo] at Y
  rw [← hH, ← hlo]
  refine lv_aload_n hx hb dJ5_length_0 rfl (lv_at hl 0 rfl) ?_
  refine ob_get X Y 0 rfl fcJ6 3 (by decide) (X.2.2.2.2.1 _ q286) rfl dJ5_length_1 ?_
  subst hQ
  exact re_i X Y hr hlk () rfl rfl hw (Nat.le_of_ble_eq_true rfl) (Nat.le_of_ble_eq_true rfl) dJ5_length_4
def wpJ6_length (K : (Int32) → Prop)  (o : Nat) (cd : Int32) (ml : Int32) (n : Int32) (va : Nat) (cp : Nat) (f : Nat → Int32) : Prop := wpJ5_length (fun r1 => (K r1))  o cd ml n va cp f
abbrev rmJ6_length : Room := { frames := 1, cells := 0, slots := 0, locals := 20 }
theorem hdJ6_length : yJ6_length.cls ≠ "java/lang/invoke/MethodHandle" ∧ yJ6_length.cls ≠ "java/lang/invoke/VarHandle" ∧ (parseMethodDescriptor yJ6_length.desc).map (fun d => d.parameters.length) = some 0 := by decide +kernel
theorem hpJ6_length : yJ6_length.name ≠ "<init>" ∧ (parseMethodDescriptor yJ6_length.desc).map (fun d => d.parameters.length) = some 0 := by decide +kernel
theorem huJ6_length : RJ6 ≠ "java/lang/invoke/MethodHandle" ∧ RJ6 ≠ "java/lang/invoke/VarHandle" ∧ (parseMethodDescriptor yJ6_length.desc).map (fun d => d.parameters.length) = some 0 := by decide +kernel
set_option maxHeartbeats 4000000 in
theorem mtJ6_length {Γ : gT} {l : Launch} {o : Nat} {cd : Int32} {ml : Int32} {n : Int32} {va : Nat} {cp : Nat} {f : Nat → Int32} {K : (Int32) → Prop}  (hw : wpJ6_length K  o cd ml n va cp f) : cI Γ l yJ6_length (ws_ yJ6_length cJ6_length 1 (some .int)) rmJ6_length E0 [.ref o] [[(o, .inr (15, [.ref va, .int cd, .int ml, .int n]))], [(va, .inl (Γ.2.1 3, cp, .inl f))]] (fun u : Unit => [[(o, .inr (15, [.ref va, .int cd, .int ml, .int n]))], [(va, .inl (Γ.2.1 3, cp, .inl f))]]) (fun r u => K r ) := by
  refine cI_of (by decide +kernel) (Nat.le_of_ble_eq_true rfl) ?_
  intro p e s m args below meth c ls A Q hQ X hr hlk hnm hE Y hl
  have hx := X.1
  have hb := X.2.1
  have hl : lv_has ls 1 [(0, .ref o)] := hl
  unfold wpJ6_length at hw
  obtain ⟨H, hH⟩ : ∃ H : Heap, H = s.heap := ⟨_, rfl⟩
  obtain ⟨locs, hlo⟩ : ∃ locs : List Loc, locs = [] := ⟨_, rfl⟩
  rw [← hH, ← hlo] at Y
  rw [← hH, ← hlo]
  refine lv_aload_n hx hb dJ6_length_0 rfl (lv_at hl 0 rfl) ?_
  refine cv_PI (ob_at X fcJ6) X Y [0, 1] [] rfl rfl rfl E0_bl (fun _ _ _ => trivial) (mtJ5_length (Γ := Γ) (l := l) hw) (lw_P q667 q663 q295 q662 q139 q668) hpJ5_length ⟨Nat.le_of_ble_eq_true rfl, Nat.le_of_ble_eq_true rfl⟩ (ob_cell X Y (b := 0) rfl List.mem_cons_self fcJ6) rfl hl.1 rfl (Nat.le_of_ble_eq_true rfl) dJ6_length_1 ⟨Nat.le_of_ble_eq_true rfl, Nat.le_of_ble_eq_true rfl⟩ (fun r1 u H locs hw Y => ?_)
  have Y : Wo Γ A s H locs [[(o, .inr (15, [.ref va, .int cd, .int ml, .int n]))], [(va, .inl (Γ.2.1 3, cp, .inl f))]] := Y
  subst hQ
  exact re_i X Y hr hlk () rfl rfl hw (Nat.le_of_ble_eq_true rfl) (Nat.le_of_ble_eq_true rfl) dJ6_length_4
def wpJ5_getCoder (K : (Int32) → Prop)  (o : Nat) (cd : Int32) (ml : Int32) (n : Int32) (va : Nat) (cp : Nat) (f : Nat → Int32) : Prop := ((1 : Int32) = 0 → (K 1)) ∧ (¬ (1 : Int32) = 0 → (narrow .byte (.int cd) = .int cd ∧ K cd))
abbrev rmJ5_getCoder : Room := { frames := 0, cells := 0, slots := 0, locals := 0 }
theorem hdJ5_getCoder : yJ5_getCoder.cls ≠ "java/lang/invoke/MethodHandle" ∧ yJ5_getCoder.cls ≠ "java/lang/invoke/VarHandle" ∧ (parseMethodDescriptor yJ5_getCoder.desc).map (fun d => d.parameters.length) = some 0 := by decide +kernel
theorem hpJ5_getCoder : yJ5_getCoder.name ≠ "<init>" ∧ (parseMethodDescriptor yJ5_getCoder.desc).map (fun d => d.parameters.length) = some 0 := by decide +kernel
theorem huJ5_getCoder : RJ5 ≠ "java/lang/invoke/MethodHandle" ∧ RJ5 ≠ "java/lang/invoke/VarHandle" ∧ (parseMethodDescriptor yJ5_getCoder.desc).map (fun d => d.parameters.length) = some 0 := by decide +kernel
set_option maxHeartbeats 4000000 in
theorem mtJ5_getCoder {Γ : gT} {l : Launch} {o : Nat} {cd : Int32} {ml : Int32} {n : Int32} {va : Nat} {cp : Nat} {f : Nat → Int32} {K : (Int32) → Prop}  (hw : wpJ5_getCoder K  o cd ml n va cp f) : cI Γ l yJ5_getCoder (ws_ yJ5_getCoder cJ5_getCoder 1 (some .byte)) rmJ5_getCoder (eN Γ) [.ref o] [[(o, .inr (15, [.ref va, .int cd, .int ml, .int n]))], [(va, .inl (Γ.2.1 3, cp, .inl f))]] (fun u : Unit => [[(o, .inr (15, [.ref va, .int cd, .int ml, .int n]))], [(va, .inl (Γ.2.1 3, cp, .inl f))]]) (fun r u => K r ) := by
  refine cI_of (by decide +kernel) (Nat.le_of_ble_eq_true rfl) ?_
  intro p e s m args below meth c ls A Q hQ X hr hlk hnm hE Y hl
  have hx := X.1
  have hb := X.2.1
  have hl : lv_has ls 1 [(0, .ref o)] := hl
  unfold wpJ5_getCoder at hw
  obtain ⟨H, hH⟩ : ∃ H : Heap, H = s.heap := ⟨_, rfl⟩
  obtain ⟨locs, hlo⟩ : ∃ locs : List Loc, locs = [] := ⟨_, rfl⟩
  rw [← hH, ← hlo] at Y
  rw [← hH, ← hlo]
  refine st_getI X Y hE 0 rfl (X.2.2.2.2.1 _ q273) dJ5_getCoder_0 ?_
  refine lv_if_eq (tgt := 13) hx hb dJ5_getCoder_3 (by decide) (fun hc => ?_) (fun hc => ?_)
  · have hw := hw.1 hc
    refine lv_iconst (v := 1) hx hb dJ5_getCoder_13 rfl ?_
    subst hQ
    exact re_i X Y hr hlk () rfl rfl hw (Nat.le_of_ble_eq_true rfl) (Nat.le_of_ble_eq_true rfl) dJ5_getCoder_14
  · have hw := hw.2 hc
    refine lv_aload_n hx hb dJ5_getCoder_6 rfl (lv_at hl 0 rfl) ?_
    refine ob_get X Y 0 rfl fcJ6 1 (by decide) (X.2.2.2.2.1 _ q283) rfl dJ5_getCoder_7 ?_
    refine lv_goto (tgt := 14) hx hb dJ5_getCoder_10 (by decide) ?_
    subst hQ
    exact re_i X Y hr hlk () rfl hw.1 hw.2 (Nat.le_of_ble_eq_true rfl) (Nat.le_of_ble_eq_true rfl) dJ5_getCoder_14
def wpJ27_copyOf (mc ms : Nat) (K : (Nat) → (Nat) → (Nat → Int32) → Prop)  (va : Nat) (cp : Nat) (f : Nat → Int32) (a1 : Int32) : Prop := (a1 = (nI cp) → (False)) ∧ (¬ a1 = (nI cp) → (¬ a1 < 0 ∧ ∀ m2 : Nat, a1.toNatClampNeg = m2 → (m2 ≤ 65536 ∧ (0 + 1 ≤ mc ∧ 0 + m2 ≤ ms) ∧ ∀ q1 : Nat, ((¬ (0 : Int32) < 0 ∧ ¬ (0 : Int32) < 0 ∧ ¬ (if a1 < (nI cp) then a1 else (nI cp)) < 0 ∧ (0 : Int32).toNatClampNeg + (if a1 < (nI cp) then a1 else (nI cp)).toNatClampNeg ≤ cp ∧ (0 : Int32).toNatClampNeg + (if a1 < (nI cp) then a1 else (nI cp)).toNatClampNeg ≤ m2 ∧ (∀ i : Nat, i < (if a1 < (nI cp) then a1 else (nI cp)).toNatClampNeg → fits .byte (.int (f ((0 : Int32).toNatClampNeg + i))) = true)) ∧ (K q1 m2 (va_cpy f (fun _ => 0) (0 : Int32).toNatClampNeg (0 : Int32).toNatClampNeg (if a1 < (nI cp) then a1 else (nI cp)).toNatClampNeg))))))
abbrev rmJ27_copyOf (mc ms : Nat) : Room := { frames := 1, cells := mc, slots := ms, locals := 60 }
theorem hdJ27_copyOf : yJ27_copyOf.cls ≠ "java/lang/invoke/MethodHandle" ∧ yJ27_copyOf.cls ≠ "java/lang/invoke/VarHandle" ∧ (parseMethodDescriptor yJ27_copyOf.desc).map (fun d => d.parameters.length) = some 2 := by decide +kernel
set_option maxHeartbeats 4000000 in
theorem mtJ27_copyOf {Γ : gT} {l : Launch} {mc ms : Nat} {va : Nat} {cp : Nat} {f : Nat → Int32} {a1 : Int32} {K : (Nat) → (Nat) → (Nat → Int32) → Prop}  (hw : wpJ27_copyOf mc ms K  va cp f a1) : cR Γ l yJ27_copyOf (ws_ yJ27_copyOf cJ27_copyOf 3 (some (.array .byte))) (rmJ27_copyOf mc ms) E0 [.ref va, .int a1] [[(va, .inl (Γ.2.1 3, cp, .inl f))]] (fun u : (Nat) × (Nat) × (Nat → Int32) => [[(va, .inl (Γ.2.1 3, cp, .inl f))], [(u.1, .inl (Γ.2.1 3, u.2.1, .inl u.2.2))]]) (fun r u => r = some u.1 ∧ K u.1 u.2.1 u.2.2) := by
  refine cR_of (by decide +kernel) (Nat.le_of_ble_eq_true rfl) ?_
  intro p e s m args below meth c ls A Q hQ X hr hlk hnm hE Y hl
  have hx := X.1
  have hb := X.2.1
  have hl : lv_has ls 3 [(0, .ref va), (1, .int a1)] := hl
  unfold wpJ27_copyOf at hw
  obtain ⟨H, hH⟩ : ∃ H : Heap, H = s.heap := ⟨_, rfl⟩
  obtain ⟨locs, hlo⟩ : ∃ locs : List Loc, locs = [] := ⟨_, rfl⟩
  rw [← hH, ← hlo] at Y
  rw [← hH, ← hlo]
  have hk : 0 ≤ mc ∧ 0 ≤ ms := ⟨Nat.zero_le _, Nat.zero_le _⟩
  refine lv_iload_n hx hb dJ27_copyOf_0 rfl (lv_at hl 1 rfl) ?_
  refine lv_aload_n hx hb dJ27_copyOf_1 rfl (lv_at hl 0 rfl) ?_
  refine ar_len X Y 0 rfl (t := 3) rfl dJ27_copyOf_2 ?_
  refine lv_icmp_ne (tgt := 14) hx hb dJ27_copyOf_3 (by decide) (fun hc => ?_) (fun hc => ?_)
  · have hw := hw.2 hc
    refine lv_iload_n hx hb dJ27_copyOf_14 rfl (lv_at hl 1 rfl) ?_
    obtain ⟨hn0, hw⟩ := hw
    obtain ⟨m2, hN⟩ : ∃ z : Nat, a1.toNatClampNeg = z := ⟨_, rfl⟩
    obtain ⟨hn1, hk, hw⟩ := hw m2 hN
    refine ar_new3 X Y hn0 hN hn1 hk.1 hk.2 dJ27_copyOf_15 (fun q1 H Y => ?_)
    have Y : Wo Γ A s H locs [[(va, .inl (Γ.2.1 3, cp, .inl f))], [(q1, .inl (Γ.2.1 3, m2, .inl (fun _ => 0)))]] := Y
    have hw := hw q1
    refine lv_astore_n (lv' := [(2, .ref q1), (0, .ref va), (1, .int a1)]) hx hb dJ27_copyOf_17 rfl hl (by decide) rfl (fun ls hl => ?_)
    refine lv_aload_n hx hb dJ27_copyOf_18 rfl (lv_at hl 1 rfl) ?_
    refine lv_iconst (v := 0) hx hb dJ27_copyOf_19 rfl ?_
    refine lv_aload_n hx hb dJ27_copyOf_20 rfl (lv_at hl 0 rfl) ?_
    refine lv_iconst (v := 0) hx hb dJ27_copyOf_21 rfl ?_
    refine lv_aload_n hx hb dJ27_copyOf_22 rfl (lv_at hl 1 rfl) ?_
    refine ar_len X Y 0 rfl (t := 3) rfl dJ27_copyOf_23 ?_
    refine lv_iload_n hx hb dJ27_copyOf_24 rfl (lv_at hl 2 rfl) ?_
    refine va_mmin hx hb (X.2.2.1.trans hl.1.symm) X.2.2.2.1 (X.2.2.2.2.1 _ q770) (X.2.2.2.2.1 _ q536) (X.2.2.2.2.1 _ q159) (X.2.2.2.2.1 _ q537) (Nat.le_of_ble_eq_true rfl) (Nat.le_of_ble_eq_true rfl) hk.1 hk.2 dJ27_copyOf_25 ?_
    obtain ⟨⟨w1, w2, w3, w4, w5, w6⟩, hw⟩ := hw
    refine za_cpy (t := 3) rfl rfl X Y (arAt_ar Y 0 (t := 3) rfl) (arAt_ar Y 1 (t := 3) rfl) q771 q773 q772 q148 hl.1 w1 w2 w3 w4 w5 w6 (Nat.le_of_ble_eq_true rfl) (Nat.le_of_ble_eq_true rfl) dJ27_copyOf_28 (fun H locs Y => ?_)
    have Y : Wo Γ A s H locs [[(va, .inl (Γ.2.1 3, cp, .inl f))], [(q1, .inl (Γ.2.1 3, m2, .inl (va_cpy f (fun _ => 0) (0 : Int32).toNatClampNeg (0 : Int32).toNatClampNeg (if a1 < (nI cp) then a1 else (nI cp)).toNatClampNeg)))]] := Y
    refine lv_aload_n hx hb dJ27_copyOf_31 rfl (lv_at hl 0 rfl) ?_
    subst hQ
    exact re_r (r := some q1) X Y hr (by first | exact Or.inl ⟨_, rfl⟩ | exact Or.inr ⟨_, rfl⟩) hlk (q1, m2, va_cpy f (fun _ => 0) (0 : Int32).toNatClampNeg (0 : Int32).toNatClampNeg (if a1 < (nI cp) then a1 else (nI cp)).toNatClampNeg) rfl ⟨rfl, hw⟩ (hk.1) (hk.2) dJ27_copyOf_32
  · have hw := hw.1 hc
    refine lv_aload_n hx hb dJ27_copyOf_6 rfl (lv_at hl 0 rfl) ?_
    exact hw.elim
def wpJ5_newCapacity (K : (Int32) → Prop)  (o : Nat) (cd : Int32) (ml : Int32) (n : Int32) (va : Nat) (cp : Nat) (f : Nat → Int32) (a1 : Int32) : Prop := wpJ21_newLength (fun r1 => ((r1 = 2147483647 → (False)) ∧ (¬ r1 = 2147483647 → (K (r1 >>> (cd &&& 31))))))  (nI cp) ((a1 <<< (cd &&& 31)) - (nI cp)) ((nI cp) + (2 <<< (cd &&& 31)))
abbrev rmJ5_newCapacity : Room := { frames := 2, cells := 0, slots := 0, locals := 45 }
theorem hdJ5_newCapacity : yJ5_newCapacity.cls ≠ "java/lang/invoke/MethodHandle" ∧ yJ5_newCapacity.cls ≠ "java/lang/invoke/VarHandle" ∧ (parseMethodDescriptor yJ5_newCapacity.desc).map (fun d => d.parameters.length) = some 1 := by decide +kernel
theorem hpJ5_newCapacity : yJ5_newCapacity.name ≠ "<init>" ∧ (parseMethodDescriptor yJ5_newCapacity.desc).map (fun d => d.parameters.length) = some 1 := by decide +kernel
theorem huJ5_newCapacity : RJ5 ≠ "java/lang/invoke/MethodHandle" ∧ RJ5 ≠ "java/lang/invoke/VarHandle" ∧ (parseMethodDescriptor yJ5_newCapacity.desc).map (fun d => d.parameters.length) = some 1 := by decide +kernel
set_option maxHeartbeats 4000000 in
theorem mtJ5_newCapacity {Γ : gT} {l : Launch} {o : Nat} {cd : Int32} {ml : Int32} {n : Int32} {va : Nat} {cp : Nat} {f : Nat → Int32} {a1 : Int32} {K : (Int32) → Prop}  (hw : wpJ5_newCapacity K  o cd ml n va cp f a1) : cI Γ l yJ5_newCapacity (ws_ yJ5_newCapacity cJ5_newCapacity 6 (some .int)) rmJ5_newCapacity E0 [.ref o, .int a1] [[(o, .inr (15, [.ref va, .int cd, .int ml, .int n]))], [(va, .inl (Γ.2.1 3, cp, .inl f))]] (fun u : Unit => [[(o, .inr (15, [.ref va, .int cd, .int ml, .int n]))], [(va, .inl (Γ.2.1 3, cp, .inl f))]]) (fun r u => K r ) := by
  refine cI_of (by decide +kernel) (Nat.le_of_ble_eq_true rfl) ?_
  intro p e s m args below meth c ls A Q hQ X hr hlk hnm hE Y hl
  have hx := X.1
  have hb := X.2.1
  have hl : lv_has ls 6 [(0, .ref o), (1, .int a1)] := hl
  unfold wpJ5_newCapacity at hw
  obtain ⟨H, hH⟩ : ∃ H : Heap, H = s.heap := ⟨_, rfl⟩
  obtain ⟨locs, hlo⟩ : ∃ locs : List Loc, locs = [] := ⟨_, rfl⟩
  rw [← hH, ← hlo] at Y
  rw [← hH, ← hlo]
  refine lv_aload_n hx hb dJ5_newCapacity_0 rfl (lv_at hl 0 rfl) ?_
  refine ob_get X Y 0 rfl fcJ6 0 (by decide) (X.2.2.2.2.1 _ q282) rfl dJ5_newCapacity_1 ?_
  refine ar_len X Y 1 rfl (t := 3) rfl dJ5_newCapacity_4 ?_
  refine lv_istore_n (lv' := [(2, .int (nI cp)), (0, .ref o), (1, .int a1)]) hx hb dJ5_newCapacity_5 rfl hl (by decide) rfl (fun ls hl => ?_)
  refine lv_iload_n hx hb dJ5_newCapacity_6 rfl (lv_at hl 2 rfl) ?_
  refine lv_aload_n hx hb dJ5_newCapacity_7 rfl (lv_at hl 1 rfl) ?_
  refine ob_get X Y 0 rfl fcJ6 1 (by decide) (X.2.2.2.2.1 _ q283) rfl dJ5_newCapacity_8 ?_
  refine lv_ishl hx hb dJ5_newCapacity_11 ?_
  refine lv_istore_n (lv' := [(3, .int (a1 <<< (cd &&& 31))), (2, .int (nI cp)), (0, .ref o), (1, .int a1)]) hx hb dJ5_newCapacity_12 rfl hl (by decide) rfl (fun ls hl => ?_)
  refine lv_iload_n hx hb dJ5_newCapacity_13 rfl (lv_at hl 0 rfl) ?_
  refine lv_iload_n hx hb dJ5_newCapacity_14 rfl (lv_at hl 1 rfl) ?_
  refine lv_isub hx hb dJ5_newCapacity_15 ?_
  refine lv_istore (lv' := [(4, .int ((a1 <<< (cd &&& 31)) - (nI cp))), (3, .int (a1 <<< (cd &&& 31))), (2, .int (nI cp)), (0, .ref o), (1, .int a1)]) hx hb dJ5_newCapacity_16 hl (by decide) rfl (fun ls hl => ?_)
  refine lv_iload_n hx hb dJ5_newCapacity_18 rfl (lv_at hl 2 rfl) ?_
  refine lv_iload hx hb dJ5_newCapacity_19 (lv_at hl 0 rfl) ?_
  refine lv_iload_n hx hb dJ5_newCapacity_21 rfl (lv_at hl 2 rfl) ?_
  refine lv_iconst (v := 2) hx hb dJ5_newCapacity_22 rfl ?_
  refine lv_aload_n hx hb dJ5_newCapacity_23 rfl (lv_at hl 3 rfl) ?_
  refine ob_get X Y 0 rfl fcJ6 1 (by decide) (X.2.2.2.2.1 _ q283) rfl dJ5_newCapacity_24 ?_
  refine lv_ishl hx hb dJ5_newCapacity_27 ?_
  refine lv_iadd hx hb dJ5_newCapacity_28 ?_
  refine cl_SI X Y [] [0, 1] rfl rfl rfl E0_bl (fun _ _ _ => trivial) (mtJ21_newLength (Γ := Γ) (l := l) hw) (lw_S q751 q752 q160 q753) hdJ21_newLength ⟨Nat.le_of_ble_eq_true rfl, Nat.le_of_ble_eq_true rfl⟩ rfl hl.1 rfl (Nat.le_of_ble_eq_true rfl) dJ5_newCapacity_29 ⟨Nat.le_of_ble_eq_true rfl, Nat.le_of_ble_eq_true rfl⟩ (fun r1 u H locs hw Y => ?_)
  have Y : Wo Γ A s H locs [[(o, .inr (15, [.ref va, .int cd, .int ml, .int n]))], [(va, .inl (Γ.2.1 3, cp, .inl f))]] := Y
  refine lv_istore (lv' := [(5, .int r1), (4, .int ((a1 <<< (cd &&& 31)) - (nI cp))), (3, .int (a1 <<< (cd &&& 31))), (2, .int (nI cp)), (0, .ref o), (1, .int a1)]) hx hb dJ5_newCapacity_32 hl (by decide) rfl (fun ls hl => ?_)
  refine lv_iload hx hb dJ5_newCapacity_34 (lv_at hl 0 rfl) ?_
  refine lv_ldc (v := 2147483647) hx hb X.2.2.2.1 (X.2.2.2.2.1 _ q759) dJ5_newCapacity_36 ?_
  refine lv_icmp_ne (tgt := 51) hx hb dJ5_newCapacity_38 (by decide) (fun hc => ?_) (fun hc => ?_)
  · have hw := hw.2 hc
    refine lv_iload hx hb dJ5_newCapacity_51 (lv_at hl 0 rfl) ?_
    refine lv_aload_n hx hb dJ5_newCapacity_53 rfl (lv_at hl 4 rfl) ?_
    refine ob_get X Y 0 rfl fcJ6 1 (by decide) (X.2.2.2.2.1 _ q283) rfl dJ5_newCapacity_54 ?_
    refine lv_ishr hx hb dJ5_newCapacity_57 ?_
    subst hQ
    exact re_i X Y hr hlk () rfl rfl hw (Nat.le_of_ble_eq_true rfl) (Nat.le_of_ble_eq_true rfl) dJ5_newCapacity_58
  · have hw := hw.1 hc
    exact hw.elim
def wpJ5_ensureCapacityInternal (mc ms : Nat) (K : (Nat) → (Nat) → (Nat → Int32) → Prop)  (o : Nat) (cd : Int32) (ml : Int32) (n : Int32) (va : Nat) (cp : Nat) (f : Nat → Int32) (a1 : Int32) : Prop := ((a1 - ((nI cp) >>> (cd &&& 31))) ≤ 0 → (K va cp f)) ∧ (¬ (a1 - ((nI cp) >>> (cd &&& 31))) ≤ 0 → (wpJ5_newCapacity (fun r1 => (∃ mc5 ms6 : Nat, (0 + mc5 ≤ mc ∧ 0 + ms6 ≤ ms) ∧ wpJ27_copyOf mc5 ms6 (fun q2 q3 z4 => (K q2 q3 z4))  va cp f (r1 <<< (cd &&& 31))))  o cd ml n va cp f a1))
abbrev rmJ5_ensureCapacityInternal (mc ms : Nat) : Room := { frames := 3, cells := mc, slots := ms, locals := 82 }
theorem hdJ5_ensureCapacityInternal : yJ5_ensureCapacityInternal.cls ≠ "java/lang/invoke/MethodHandle" ∧ yJ5_ensureCapacityInternal.cls ≠ "java/lang/invoke/VarHandle" ∧ (parseMethodDescriptor yJ5_ensureCapacityInternal.desc).map (fun d => d.parameters.length) = some 1 := by decide +kernel
theorem hpJ5_ensureCapacityInternal : yJ5_ensureCapacityInternal.name ≠ "<init>" ∧ (parseMethodDescriptor yJ5_ensureCapacityInternal.desc).map (fun d => d.parameters.length) = some 1 := by decide +kernel
theorem huJ5_ensureCapacityInternal : RJ5 ≠ "java/lang/invoke/MethodHandle" ∧ RJ5 ≠ "java/lang/invoke/VarHandle" ∧ (parseMethodDescriptor yJ5_ensureCapacityInternal.desc).map (fun d => d.parameters.length) = some 1 := by decide +kernel
set_option maxHeartbeats 4000000 in
theorem mtJ5_ensureCapacityInternal {Γ : gT} {l : Launch} {mc ms : Nat} {o : Nat} {cd : Int32} {ml : Int32} {n : Int32} {va : Nat} {cp : Nat} {f : Nat → Int32} {a1 : Int32} {K : (Nat) → (Nat) → (Nat → Int32) → Prop}  (hw : wpJ5_ensureCapacityInternal mc ms K  o cd ml n va cp f a1) : cV Γ l yJ5_ensureCapacityInternal (ws_ yJ5_ensureCapacityInternal cJ5_ensureCapacityInternal 3 none) (rmJ5_ensureCapacityInternal mc ms) (eN Γ) [.ref o, .int a1] [[(o, .inr (15, [.ref va, .int cd, .int ml, .int n]))], [(va, .inl (Γ.2.1 3, cp, .inl f))]] (fun u : (Nat) × (Nat) × (Nat → Int32) => [[(o, .inr (15, [.ref u.1, .int cd, .int ml, .int n]))], [(u.1, .inl (Γ.2.1 3, u.2.1, .inl u.2.2))]]) (fun u => K u.1 u.2.1 u.2.2) := by
  refine cV_of (by decide +kernel) (Nat.le_of_ble_eq_true rfl) ?_
  intro p e s m args below meth c ls A Q hQ X hr hlk hnm hE Y hl
  have hx := X.1
  have hb := X.2.1
  have hl : lv_has ls 3 [(0, .ref o), (1, .int a1)] := hl
  unfold wpJ5_ensureCapacityInternal at hw
  obtain ⟨H, hH⟩ : ∃ H : Heap, H = s.heap := ⟨_, rfl⟩
  obtain ⟨locs, hlo⟩ : ∃ locs : List Loc, locs = [] := ⟨_, rfl⟩
  rw [← hH, ← hlo] at Y
  rw [← hH, ← hlo]
  have hk : 0 ≤ mc ∧ 0 ≤ ms := ⟨Nat.zero_le _, Nat.zero_le _⟩
  refine lv_aload_n hx hb dJ5_ensureCapacityInternal_0 rfl (lv_at hl 0 rfl) ?_
  refine ob_get X Y 0 rfl fcJ6 0 (by decide) (X.2.2.2.2.1 _ q282) rfl dJ5_ensureCapacityInternal_1 ?_
  refine ar_len X Y 1 rfl (t := 3) rfl dJ5_ensureCapacityInternal_4 ?_
  refine lv_aload_n hx hb dJ5_ensureCapacityInternal_5 rfl (lv_at hl 0 rfl) ?_
  refine ob_get X Y 0 rfl fcJ6 1 (by decide) (X.2.2.2.2.1 _ q283) rfl dJ5_ensureCapacityInternal_6 ?_
  refine lv_ishr hx hb dJ5_ensureCapacityInternal_9 ?_
  refine lv_istore_n (lv' := [(2, .int ((nI cp) >>> (cd &&& 31))), (0, .ref o), (1, .int a1)]) hx hb dJ5_ensureCapacityInternal_10 rfl hl (by decide) rfl (fun ls hl => ?_)
  refine lv_iload_n hx hb dJ5_ensureCapacityInternal_11 rfl (lv_at hl 2 rfl) ?_
  refine lv_iload_n hx hb dJ5_ensureCapacityInternal_12 rfl (lv_at hl 0 rfl) ?_
  refine lv_isub hx hb dJ5_ensureCapacityInternal_13 ?_
  refine lv_if_le (tgt := 38) hx hb dJ5_ensureCapacityInternal_14 (by decide) (fun hc => ?_) (fun hc => ?_)
  · have hw := hw.1 hc
    subst hQ
    exact re_v X Y hr hlk (va, cp, f) rfl hw (hk.1) (hk.2) dJ5_ensureCapacityInternal_38
  · have hw := hw.2 hc
    refine lv_aload_n hx hb dJ5_ensureCapacityInternal_17 rfl (lv_at hl 1 rfl) ?_
    refine lv_aload_n hx hb dJ5_ensureCapacityInternal_18 rfl (lv_at hl 1 rfl) ?_
    refine ob_get X Y 0 rfl fcJ6 0 (by decide) (X.2.2.2.2.1 _ q282) rfl dJ5_ensureCapacityInternal_19 ?_
    refine lv_aload_n hx hb dJ5_ensureCapacityInternal_22 rfl (lv_at hl 1 rfl) ?_
    refine lv_iload_n hx hb dJ5_ensureCapacityInternal_23 rfl (lv_at hl 2 rfl) ?_
    refine cv_KI X Y [0, 1] [] rfl rfl rfl E0_bl (fun _ _ _ => trivial) (mtJ5_newCapacity (Γ := Γ) (l := l) hw) (eN_sp hE 7 rfl) q747 q3734 q749 q139 q750 huJ5_newCapacity ⟨Nat.le_of_ble_eq_true rfl, Nat.le_of_ble_eq_true rfl⟩ (ob_cell X Y (b := 0) rfl List.mem_cons_self fcJ6) rfl hl.1 rfl (Nat.le_of_ble_eq_true rfl) dJ5_ensureCapacityInternal_24 hk (fun r1 u H locs hw Y => ?_)
    have Y : Wo Γ A s H locs [[(o, .inr (15, [.ref va, .int cd, .int ml, .int n]))], [(va, .inl (Γ.2.1 3, cp, .inl f))]] := Y
    refine lv_aload_n hx hb dJ5_ensureCapacityInternal_27 rfl (lv_at hl 1 rfl) ?_
    refine ob_get X Y 0 rfl fcJ6 1 (by decide) (X.2.2.2.2.1 _ q283) rfl dJ5_ensureCapacityInternal_28 ?_
    refine lv_ishl hx hb dJ5_ensureCapacityInternal_31 ?_
    obtain ⟨mc5, ms6, hk2, hw⟩ := hw
    refine cl_SR X Y [1] [0] rfl rfl rfl E0_bl (fun _ _ _ => trivial) (mtJ27_copyOf (Γ := Γ) (l := l) (mc := mc5) (ms := ms6) hw) (lw_S q760 q761 q167 q762) hdJ27_copyOf ⟨Nat.le_of_ble_eq_true rfl, Nat.le_of_ble_eq_true rfl⟩ rfl hl.1 rfl (Nat.le_of_ble_eq_true rfl) dJ5_ensureCapacityInternal_32 hk2 (fun r u H locs hw Y => ?_)
    obtain ⟨q2, q3, z4⟩ := u
    obtain ⟨rfl, hw⟩ := hw
    have hk : 0 + mc5 ≤ mc ∧ 0 + ms6 ≤ ms := hk2
    have Y : Wo Γ A s H locs [[(va, .inl (Γ.2.1 3, cp, .inl f))], [(q2, .inl (Γ.2.1 3, q3, .inl z4))], [(o, .inr (15, [.ref va, .int cd, .int ml, .int n]))]] := Y
    refine ob_put X Y 2 rfl fcJ6 0 (by decide) (X.2.2.2.2.1 _ q282) rfl (by first | rfl | exact op_nar _ | exact op_narA _) (by first | rfl | exact op_fit _ | exact op_fitA _) (Nat.le_of_ble_eq_true rfl) dJ5_ensureCapacityInternal_35 (fun H locs Y => ?_)
    have Y : Wo Γ A s H locs [[(va, .inl (Γ.2.1 3, cp, .inl f))], [(q2, .inl (Γ.2.1 3, q3, .inl z4))], [(o, .inr (15, [.ref q2, .int cd, .int ml, .int n]))]] := Y
    have Y : Wo Γ A s H locs [[(o, .inr (15, [.ref q2, .int cd, .int ml, .int n]))], [(q2, .inl (Γ.2.1 3, q3, .inl z4))]] := Y.drop [2, 1] [0] rfl rfl rfl
    subst hQ
    exact re_v X Y hr hlk (q2, q3, z4) rfl hw (hk.1) (hk.2) dJ5_ensureCapacityInternal_38
def wpJ18_stringSize (K : (Int32) → Prop)  (a1 : Int32) : Prop := ∃ J1 : (Int32) → (Int32) → Prop, (∀ (x2 : Int32) (x3 : Int32), J1 x2 x3 → (∃ I4 : Nat → (Int32) → (Int32) → Prop, (∃ n, I4 n (-10) 1) ∧ ∀ (n5 : Nat) (x6 : Int32) (x7 : Int32), I4 n5 x6 x7 → ((10 ≤ x7 → (K ((10 : Int32) + x3))) ∧ (¬ 10 ≤ x7 → ((x2 ≤ x6 → (∃ n8, n8 < n5 ∧ I4 n8 ((10 : Int32) * x6) (x7 + 1))) ∧ (¬ x2 ≤ x6 → (K (x7 + x3)))))))) ∧ ((a1 < 0 → (J1 a1 1)) ∧ (¬ a1 < 0 → (J1 (-a1) 0)))
abbrev rmJ18_stringSize : Room := { frames := 0, cells := 0, slots := 0, locals := 0 }
theorem hdJ18_stringSize : yJ18_stringSize.cls ≠ "java/lang/invoke/MethodHandle" ∧ yJ18_stringSize.cls ≠ "java/lang/invoke/VarHandle" ∧ (parseMethodDescriptor yJ18_stringSize.desc).map (fun d => d.parameters.length) = some 1 := by decide +kernel
set_option maxHeartbeats 4000000 in
theorem mtJ18_stringSize {Γ : gT} {l : Launch} {a1 : Int32} {K : (Int32) → Prop}  (hw : wpJ18_stringSize K  a1) : cI Γ l yJ18_stringSize (ws_ yJ18_stringSize cJ18_stringSize 4 (some .int)) rmJ18_stringSize E0 [.int a1] [] (fun u : Unit => []) (fun r u => K r ) := by
  refine cI_of (by decide +kernel) (Nat.le_of_ble_eq_true rfl) ?_
  intro p e s m args below meth c ls A Q hQ X hr hlk hnm hE Y hl
  have hx := X.1
  have hb := X.2.1
  have hl : lv_has ls 4 [(0, .int a1)] := hl
  unfold wpJ18_stringSize at hw
  obtain ⟨H, hH⟩ : ∃ H : Heap, H = s.heap := ⟨_, rfl⟩
  obtain ⟨locs, hlo⟩ : ∃ locs : List Loc, locs = [] := ⟨_, rfl⟩
  rw [← hH, ← hlo] at Y
  rw [← hH, ← hlo]
  refine lv_iconst (v := 1) hx hb dJ18_stringSize_0 rfl ?_
  refine lv_istore_n (lv' := [(1, .int 1), (0, .int a1)]) hx hb dJ18_stringSize_1 rfl hl (by decide) rfl (fun ls hl => ?_)
  refine lv_iload_n hx hb dJ18_stringSize_2 rfl (lv_at hl 1 rfl) ?_
  obtain ⟨J1, hwR, hw⟩ := hw
  have hJ1 : ∀ (x2 : Int32) (x3 : Int32) (H : Heap) (locs : List Loc) (ls : Array Slot), J1 x2 x3 → Wo Γ A s H locs [] → lv_has ls 4 [(0, .int x2), (1, .int x3)] → W p l e rmJ18_stringSize s m args below meth c H locs 0 0 Q (F0 m 11 ls []) := by
    intro x2 x3 H locs ls hw Y hl
    have hw := hwR x2 x3 hw
    refine lv_bipush (v := (-10)) hx hb dJ18_stringSize_11 rfl ?_
    refine lv_istore_n (lv' := [(2, .int (-10)), (0, .int x2), (1, .int x3)]) hx hb dJ18_stringSize_13 rfl hl (by decide) rfl (fun ls hl => ?_)
    refine lv_iconst (v := 1) hx hb dJ18_stringSize_14 rfl ?_
    refine lv_istore_n (lv' := [(3, .int 1), (2, .int (-10)), (0, .int x2), (1, .int x3)]) hx hb dJ18_stringSize_15 rfl hl (by decide) rfl (fun ls hl => ?_)
    obtain ⟨I4, hw0, hwI⟩ := hw
    have hI4 : ∀ (n5 : Nat) (x6 : Int32) (x7 : Int32) (H : Heap) (locs : List Loc) (ls : Array Slot), I4 n5 x6 x7 → Wo Γ A s H locs [] → lv_has ls 4 [(0, .int x2), (1, .int x3), (2, .int x6), (3, .int x7)] → W p l e rmJ18_stringSize s m args below meth c H locs 0 0 Q (F0 m 16 ls []) := by
      intro n5
      induction n5 using Nat.strongRecOn with
      | ind n5 ihn5 =>
        intro x6 x7 H locs ls hw Y hl
        have hw := hwI n5 x6 x7 hw
        refine lv_iload_n hx hb dJ18_stringSize_16 rfl (lv_at hl 3 rfl) ?_
        refine lv_bipush (v := 10) hx hb dJ18_stringSize_17 rfl ?_
        refine lv_icmp_ge (tgt := 42) hx hb dJ18_stringSize_19 (by decide) (fun hc => ?_) (fun hc => ?_)
        · have hw := hw.1 hc
          refine lv_bipush (v := 10) hx hb dJ18_stringSize_42 rfl ?_
          refine lv_iload_n hx hb dJ18_stringSize_44 rfl (lv_at hl 1 rfl) ?_
          refine lv_iadd hx hb dJ18_stringSize_45 ?_
          subst hQ
          exact re_i X Y hr hlk () rfl rfl hw (Nat.le_of_ble_eq_true rfl) (Nat.le_of_ble_eq_true rfl) dJ18_stringSize_46
        · have hw := hw.2 hc
          refine lv_iload_n hx hb dJ18_stringSize_22 rfl (lv_at hl 0 rfl) ?_
          refine lv_iload_n hx hb dJ18_stringSize_23 rfl (lv_at hl 2 rfl) ?_
          refine lv_icmp_le (tgt := 31) hx hb dJ18_stringSize_24 (by decide) (fun hc => ?_) (fun hc => ?_)
          · have hw := hw.1 hc
            refine lv_bipush (v := 10) hx hb dJ18_stringSize_31 rfl ?_
            refine lv_iload_n hx hb dJ18_stringSize_33 rfl (lv_at hl 2 rfl) ?_
            refine lv_imul hx hb dJ18_stringSize_34 ?_
            refine lv_istore_n (lv' := [(2, .int ((10 : Int32) * x6)), (0, .int x2), (1, .int x3), (3, .int x7)]) hx hb dJ18_stringSize_35 rfl hl (by decide) rfl (fun ls hl => ?_)
            refine lv_iinc (v := x7 + 1) (lv' := [(3, .int (x7 + 1)), (2, .int ((10 : Int32) * x6)), (0, .int x2), (1, .int x3)]) hx hb dJ18_stringSize_36 hl (k := 3) rfl rfl (by decide) rfl (fun ls hl => ?_)
            refine lv_goto (tgt := 16) hx hb dJ18_stringSize_39 (by decide) ?_
            obtain ⟨n8, hlt, hw⟩ := hw
            exact ihn5 n8 hlt ((10 : Int32) * x6) (x7 + 1) H locs ls hw Y (lv_sub hl [2, 3, 1, 0] rfl)
          · have hw := hw.2 hc
            refine lv_iload_n hx hb dJ18_stringSize_27 rfl (lv_at hl 3 rfl) ?_
            refine lv_iload_n hx hb dJ18_stringSize_28 rfl (lv_at hl 1 rfl) ?_
            refine lv_iadd hx hb dJ18_stringSize_29 ?_
            subst hQ
            exact re_i X Y hr hlk () rfl rfl hw (Nat.le_of_ble_eq_true rfl) (Nat.le_of_ble_eq_true rfl) dJ18_stringSize_30
    obtain ⟨n0, hw0⟩ := hw0
    exact hI4 n0 (-10) 1 H locs ls hw0 Y (lv_sub hl [2, 3, 1, 0] rfl)
  refine lv_if_lt (tgt := 11) hx hb dJ18_stringSize_3 (by decide) (fun hc => ?_) (fun hc => ?_)
  · have hw := hw.1 hc
    exact hJ1 a1 1 H locs ls hw Y (lv_sub hl [1, 0] rfl)
  · have hw := hw.2 hc
    refine lv_iconst (v := 0) hx hb dJ18_stringSize_6 rfl ?_
    refine lv_istore_n (lv' := [(1, .int 0), (0, .int a1)]) hx hb dJ18_stringSize_7 rfl hl (by decide) rfl (fun ls hl => ?_)
    refine lv_iload_n hx hb dJ18_stringSize_8 rfl (lv_at hl 1 rfl) ?_
    refine lv_ineg hx hb dJ18_stringSize_9 ?_
    refine lv_istore_n (lv' := [(0, .int (-a1)), (1, .int 0)]) hx hb dJ18_stringSize_10 rfl hl (by decide) rfl (fun ls hl => ?_)
    exact hJ1 (-a1) 0 H locs ls hw Y (lv_sub hl [0, 1] rfl)
def wpJ18_getChars (K : (Int32) → (Nat → Int32) → Prop)  (va : Nat) (cp : Nat) (f : Nat → Int32) (a1 : Int32) (a2 : Int32) : Prop := ∃ J1 : (Int32) → Prop, (∀ (x2 : Int32), J1 x2 → (∃ J3 : (Int32) → Prop, (∀ (x4 : Int32), J3 x4 → (∃ I5 : Nat → (Int32) → (Int32) → (Nat → Int32) → Prop, (∃ n, I5 n x4 a2 f) ∧ ∀ (n6 : Nat) (x7 : Int32) (x8 : Int32) (z9 : Nat → Int32), I5 n6 x7 x8 z9 → (((-100) < x7 → (vp_in (-x7) 100 ∧ (vp_in (x8 + (-1)) cp ∧ (∃ J10 : (Int32) → (Nat → Int32) → Prop, (∀ (x11 : Int32) (z12 : Nat → Int32), J10 x11 z12 → ((x2 = 0 → (K x11 z12)) ∧ (¬ x2 = 0 → (vp_in (x11 + (-1)) cp ∧ (K (x11 + (-1)) (upd z12 (x11 + (-1)).toNatClampNeg (vp_nar .byte 45))))))) ∧ (((-9) ≤ x7 → (J10 (x8 + (-1)) (upd z9 (x8 + (-1)).toNatClampNeg (vp_nar .byte (stD 0 (-x7).toNatClampNeg))))) ∧ (¬ (-9) ≤ x7 → (vp_in (-x7) 100 ∧ (vp_in ((x8 + (-1)) + (-1)) cp ∧ (J10 ((x8 + (-1)) + (-1)) (upd (upd z9 (x8 + (-1)).toNatClampNeg (vp_nar .byte (stD 0 (-x7).toNatClampNeg))) ((x8 + (-1)) + (-1)).toNatClampNeg (vp_nar .byte (stD 1 (-x7).toNatClampNeg)))))))))))) ∧ (¬ (-100) < x7 → (vp_in (((x7 / 100) * 100) - x7) 100 ∧ (vp_in (x8 + (-1)) cp ∧ (vp_in (((x7 / 100) * 100) - x7) 100 ∧ (vp_in ((x8 + (-1)) + (-1)) cp ∧ (∃ n13, n13 < n6 ∧ I5 n13 (x7 / 100) ((x8 + (-1)) + (-1)) (upd (upd z9 (x8 + (-1)).toNatClampNeg (vp_nar .byte (stD 0 (((x7 / 100) * 100) - x7).toNatClampNeg))) ((x8 + (-1)) + (-1)).toNatClampNeg (vp_nar .byte (stD 1 (((x7 / 100) * 100) - x7).toNatClampNeg)))))))))))) ∧ ((x2 = 0 → (J3 (-a1))) ∧ (¬ x2 = 0 → (J3 a1))))) ∧ ((0 ≤ a1 → (J1 0)) ∧ (¬ 0 ≤ a1 → (J1 1)))
abbrev rmJ18_getChars : Room := { frames := 0, cells := 0, slots := 0, locals := 0 }
theorem hdJ18_getChars : yJ18_getChars.cls ≠ "java/lang/invoke/MethodHandle" ∧ yJ18_getChars.cls ≠ "java/lang/invoke/VarHandle" ∧ (parseMethodDescriptor yJ18_getChars.desc).map (fun d => d.parameters.length) = some 3 := by decide +kernel
set_option maxHeartbeats 4000000 in
theorem mtJ18_getChars {Γ : gT} {l : Launch} {va : Nat} {cp : Nat} {f : Nat → Int32} {a1 : Int32} {a2 : Int32} {K : (Int32) → (Nat → Int32) → Prop}  (hw : wpJ18_getChars K  va cp f a1 a2) : cI Γ l yJ18_getChars (ws_ yJ18_getChars cJ18_getChars 7 (some .int)) rmJ18_getChars (eN Γ) [.int a1, .int a2, .ref va] [[(va, .inl (Γ.2.1 3, cp, .inl f))]] (fun u : (Nat → Int32) => [[(va, .inl (Γ.2.1 3, cp, .inl u))]]) (fun r u => K r u) := by
  refine cI_of (by decide +kernel) (Nat.le_of_ble_eq_true rfl) ?_
  intro p e s m args below meth c ls A Q hQ X hr hlk hnm hE Y hl
  have hx := X.1
  have hb := X.2.1
  have hl : lv_has ls 7 [(0, .int a1), (1, .int a2), (2, .ref va)] := hl
  unfold wpJ18_getChars at hw
  obtain ⟨H, hH⟩ : ∃ H : Heap, H = s.heap := ⟨_, rfl⟩
  obtain ⟨locs, hlo⟩ : ∃ locs : List Loc, locs = [] := ⟨_, rfl⟩
  rw [← hH, ← hlo] at Y
  rw [← hH, ← hlo]
  refine lv_iload_n hx hb dJ18_getChars_0 rfl (lv_at hl 1 rfl) ?_
  refine lv_istore (lv' := [(5, .int a2), (0, .int a1), (1, .int a2), (2, .ref va)]) hx hb dJ18_getChars_1 hl (by decide) rfl (fun ls hl => ?_)
  refine lv_iload_n hx hb dJ18_getChars_3 rfl (lv_at hl 1 rfl) ?_
  obtain ⟨J1, hwR, hw⟩ := hw
  have hJ1 : ∀ (x2 : Int32) (H : Heap) (locs : List Loc) (ls : Array Slot), J1 x2 → Wo Γ A s H locs [[(va, .inl (Γ.2.1 3, cp, .inl f))]] → lv_has ls 7 [(0, .int a1), (2, .ref va), (5, .int a2)] → W p l e rmJ18_getChars s m args below meth c H locs 0 0 Q (F0 m 12 ls [.int x2]) := by
    intro x2 H locs ls hw Y hl
    have hw := hwR x2 hw
    refine lv_istore (lv' := [(6, .int x2), (0, .int a1), (2, .ref va), (5, .int a2)]) hx hb dJ18_getChars_12 hl (by decide) rfl (fun ls hl => ?_)
    refine lv_iload hx hb dJ18_getChars_14 (lv_at hl 0 rfl) ?_
    obtain ⟨J3, hwR, hw⟩ := hw
    have hJ3 : ∀ (x4 : Int32) (H : Heap) (locs : List Loc) (ls : Array Slot), J3 x4 → Wo Γ A s H locs [[(va, .inl (Γ.2.1 3, cp, .inl f))]] → lv_has ls 7 [(0, .int x4), (2, .ref va), (5, .int a2), (6, .int x2)] → W p l e rmJ18_getChars s m args below meth c H locs 0 0 Q (F0 m 22 ls []) := by
      intro x4 H locs ls hw Y hl
      have hw := hwR x4 hw
      obtain ⟨I5, hw0, hwI⟩ := hw
      have hI5 : ∀ (n6 : Nat) (x7 : Int32) (x8 : Int32) (z9 : Nat → Int32) (H : Heap) (locs : List Loc) (ls : Array Slot), I5 n6 x7 x8 z9 → Wo Γ A s H locs [[(va, .inl (Γ.2.1 3, cp, .inl z9))]] → lv_has ls 7 [(0, .int x7), (2, .ref va), (5, .int x8), (6, .int x2)] → W p l e rmJ18_getChars s m args below meth c H locs 0 0 Q (F0 m 22 ls []) := by
        intro n6
        induction n6 using Nat.strongRecOn with
        | ind n6 ihn6 =>
          intro x7 x8 z9 H locs ls hw Y hl
          have hw := hwI n6 x7 x8 z9 hw
          refine lv_iload_n hx hb dJ18_getChars_22 rfl (lv_at hl 0 rfl) ?_
          refine lv_bipush (v := (-100)) hx hb dJ18_getChars_23 rfl ?_
          refine lv_icmp_gt (tgt := 72) hx hb dJ18_getChars_25 (by decide) (fun hc => ?_) (fun hc => ?_)
          · have hw := hw.1 hc
            refine lv_aload_n hx hb dJ18_getChars_72 rfl (lv_at hl 1 rfl) ?_
            refine lv_iinc (v := x8 + (-1)) (lv' := [(5, .int (x8 + (-1))), (0, .int x7), (2, .ref va), (6, .int x2)]) hx hb dJ18_getChars_73 hl (k := 2) rfl rfl (by decide) rfl (fun ls hl => ?_)
            refine lv_iload hx hb dJ18_getChars_76 (lv_at hl 0 rfl) ?_
            refine st_getR X Y hE 0 rfl (X.2.2.2.2.1 _ q778) dJ18_getChars_78 ?_
            refine lv_iload_n hx hb dJ18_getChars_81 rfl (lv_at hl 1 rfl) ?_
            refine lv_ineg hx hb dJ18_getChars_82 ?_
            refine st_dig X Y hE 0 (by decide) hw.1 dJ18_getChars_83 ?_
            have hw := hw.2
            refine ar_ast3 X Y 0 rfl hw.1 dJ18_getChars_84 (fun H locs Y => ?_)
            have Y : Wo Γ A s H locs [[(va, .inl (Γ.2.1 3, cp, .inl (upd z9 (x8 + (-1)).toNatClampNeg (vp_nar .byte (stD 0 (-x7).toNatClampNeg)))))]] := Y
            have hw := hw.2
            refine lv_iload_n hx hb dJ18_getChars_85 rfl (lv_at hl 1 rfl) ?_
            refine lv_bipush (v := (-9)) hx hb dJ18_getChars_86 rfl ?_
            obtain ⟨J10, hwR, hw⟩ := hw
            have hJ10 : ∀ (x11 : Int32) (z12 : Nat → Int32) (H : Heap) (locs : List Loc) (ls : Array Slot), J10 x11 z12 → Wo Γ A s H locs [[(va, .inl (Γ.2.1 3, cp, .inl z12))]] → lv_has ls 7 [(2, .ref va), (5, .int x11), (6, .int x2)] → W p l e rmJ18_getChars s m args below meth c H locs 0 0 Q (F0 m 104 ls []) := by
              intro x11 z12 H locs ls hw Y hl
              have hw := hwR x11 z12 hw
              refine lv_iload hx hb dJ18_getChars_104 (lv_at hl 2 rfl) ?_
              refine lv_if_eq (tgt := 118) hx hb dJ18_getChars_106 (by decide) (fun hc => ?_) (fun hc => ?_)
              · have hw := hw.1 hc
                refine lv_iload hx hb dJ18_getChars_118 (lv_at hl 1 rfl) ?_
                subst hQ
                exact re_i X Y hr hlk z12 rfl rfl hw (Nat.le_of_ble_eq_true rfl) (Nat.le_of_ble_eq_true rfl) dJ18_getChars_120
              · have hw := hw.2 hc
                refine lv_aload_n hx hb dJ18_getChars_109 rfl (lv_at hl 0 rfl) ?_
                refine lv_iinc (v := x11 + (-1)) (lv' := [(5, .int (x11 + (-1))), (2, .ref va), (6, .int x2)]) hx hb dJ18_getChars_110 hl (k := 1) rfl rfl (by decide) rfl (fun ls hl => ?_)
                refine lv_iload hx hb dJ18_getChars_113 (lv_at hl 0 rfl) ?_
                refine lv_bipush (v := 45) hx hb dJ18_getChars_115 rfl ?_
                refine ar_ast3 X Y 0 rfl hw.1 dJ18_getChars_117 (fun H locs Y => ?_)
                have Y : Wo Γ A s H locs [[(va, .inl (Γ.2.1 3, cp, .inl (upd z12 (x11 + (-1)).toNatClampNeg (vp_nar .byte 45))))]] := Y
                have hw := hw.2
                refine lv_iload hx hb dJ18_getChars_118 (lv_at hl 0 rfl) ?_
                subst hQ
                exact re_i X Y hr hlk (upd z12 (x11 + (-1)).toNatClampNeg (vp_nar .byte 45)) rfl rfl hw (Nat.le_of_ble_eq_true rfl) (Nat.le_of_ble_eq_true rfl) dJ18_getChars_120
            refine lv_icmp_ge (tgt := 104) hx hb dJ18_getChars_88 (by decide) (fun hc => ?_) (fun hc => ?_)
            · have hw := hw.1 hc
              exact hJ10 (x8 + (-1)) (upd z9 (x8 + (-1)).toNatClampNeg (vp_nar .byte (stD 0 (-x7).toNatClampNeg))) H locs ls hw Y (lv_sub hl [2, 0, 3] rfl)
            · have hw := hw.2 hc
              refine lv_aload_n hx hb dJ18_getChars_91 rfl (lv_at hl 2 rfl) ?_
              refine lv_iinc (v := (x8 + (-1)) + (-1)) (lv' := [(5, .int ((x8 + (-1)) + (-1))), (0, .int x7), (2, .ref va), (6, .int x2)]) hx hb dJ18_getChars_92 hl (k := 0) rfl rfl (by decide) rfl (fun ls hl => ?_)
              refine lv_iload hx hb dJ18_getChars_95 (lv_at hl 0 rfl) ?_
              refine st_getR X Y hE 1 rfl (X.2.2.2.2.1 _ q780) dJ18_getChars_97 ?_
              refine lv_iload_n hx hb dJ18_getChars_100 rfl (lv_at hl 1 rfl) ?_
              refine lv_ineg hx hb dJ18_getChars_101 ?_
              refine st_dig X Y hE 1 (by decide) hw.1 dJ18_getChars_102 ?_
              have hw := hw.2
              refine ar_ast3 X Y 0 rfl hw.1 dJ18_getChars_103 (fun H locs Y => ?_)
              have Y : Wo Γ A s H locs [[(va, .inl (Γ.2.1 3, cp, .inl (upd (upd z9 (x8 + (-1)).toNatClampNeg (vp_nar .byte (stD 0 (-x7).toNatClampNeg))) ((x8 + (-1)) + (-1)).toNatClampNeg (vp_nar .byte (stD 1 (-x7).toNatClampNeg)))))]] := Y
              have hw := hw.2
              exact hJ10 ((x8 + (-1)) + (-1)) (upd (upd z9 (x8 + (-1)).toNatClampNeg (vp_nar .byte (stD 0 (-x7).toNatClampNeg))) ((x8 + (-1)) + (-1)).toNatClampNeg (vp_nar .byte (stD 1 (-x7).toNatClampNeg))) H locs ls hw Y (lv_sub hl [2, 0, 3] rfl)
          · have hw := hw.2 hc
            refine lv_iload_n hx hb dJ18_getChars_28 rfl (lv_at hl 0 rfl) ?_
            refine lv_bipush (v := 100) hx hb dJ18_getChars_29 rfl ?_
            refine lv_idiv hx hb dJ18_getChars_31 (by decide) ?_
            refine lv_istore_n (lv' := [(3, .int (x7 / 100)), (0, .int x7), (2, .ref va), (5, .int x8), (6, .int x2)]) hx hb dJ18_getChars_32 rfl hl (by decide) rfl (fun ls hl => ?_)
            refine lv_iload_n hx hb dJ18_getChars_33 rfl (lv_at hl 0 rfl) ?_
            refine lv_bipush (v := 100) hx hb dJ18_getChars_34 rfl ?_
            refine lv_imul hx hb dJ18_getChars_36 ?_
            refine lv_iload_n hx hb dJ18_getChars_37 rfl (lv_at hl 1 rfl) ?_
            refine lv_isub hx hb dJ18_getChars_38 ?_
            refine lv_istore (lv' := [(4, .int (((x7 / 100) * 100) - x7)), (3, .int (x7 / 100)), (0, .int x7), (2, .ref va), (5, .int x8), (6, .int x2)]) hx hb dJ18_getChars_39 hl (by decide) rfl (fun ls hl => ?_)
            refine lv_iload_n hx hb dJ18_getChars_41 rfl (lv_at hl 1 rfl) ?_
            refine lv_istore_n (lv' := [(0, .int (x7 / 100)), (4, .int (((x7 / 100) * 100) - x7)), (3, .int (x7 / 100)), (2, .ref va), (5, .int x8), (6, .int x2)]) hx hb dJ18_getChars_42 rfl hl (by decide) rfl (fun ls hl => ?_)
            refine lv_aload_n hx hb dJ18_getChars_43 rfl (lv_at hl 3 rfl) ?_
            refine lv_iinc (v := x8 + (-1)) (lv' := [(5, .int (x8 + (-1))), (0, .int (x7 / 100)), (4, .int (((x7 / 100) * 100) - x7)), (3, .int (x7 / 100)), (2, .ref va), (6, .int x2)]) hx hb dJ18_getChars_44 hl (k := 4) rfl rfl (by decide) rfl (fun ls hl => ?_)
            refine lv_iload hx hb dJ18_getChars_47 (lv_at hl 0 rfl) ?_
            refine st_getR X Y hE 0 rfl (X.2.2.2.2.1 _ q778) dJ18_getChars_49 ?_
            refine lv_iload hx hb dJ18_getChars_52 (lv_at hl 2 rfl) ?_
            refine st_dig X Y hE 0 (by decide) hw.1 dJ18_getChars_54 ?_
            have hw := hw.2
            refine ar_ast3 X Y 0 rfl hw.1 dJ18_getChars_55 (fun H locs Y => ?_)
            have Y : Wo Γ A s H locs [[(va, .inl (Γ.2.1 3, cp, .inl (upd z9 (x8 + (-1)).toNatClampNeg (vp_nar .byte (stD 0 (((x7 / 100) * 100) - x7).toNatClampNeg)))))]] := Y
            have hw := hw.2
            refine lv_aload_n hx hb dJ18_getChars_56 rfl (lv_at hl 4 rfl) ?_
            refine lv_iinc (v := (x8 + (-1)) + (-1)) (lv' := [(5, .int ((x8 + (-1)) + (-1))), (0, .int (x7 / 100)), (4, .int (((x7 / 100) * 100) - x7)), (3, .int (x7 / 100)), (2, .ref va), (6, .int x2)]) hx hb dJ18_getChars_57 hl (k := 0) rfl rfl (by decide) rfl (fun ls hl => ?_)
            refine lv_iload hx hb dJ18_getChars_60 (lv_at hl 0 rfl) ?_
            refine st_getR X Y hE 1 rfl (X.2.2.2.2.1 _ q780) dJ18_getChars_62 ?_
            refine lv_iload hx hb dJ18_getChars_65 (lv_at hl 2 rfl) ?_
            refine st_dig X Y hE 1 (by decide) hw.1 dJ18_getChars_67 ?_
            have hw := hw.2
            refine ar_ast3 X Y 0 rfl hw.1 dJ18_getChars_68 (fun H locs Y => ?_)
            have Y : Wo Γ A s H locs [[(va, .inl (Γ.2.1 3, cp, .inl (upd (upd z9 (x8 + (-1)).toNatClampNeg (vp_nar .byte (stD 0 (((x7 / 100) * 100) - x7).toNatClampNeg))) ((x8 + (-1)) + (-1)).toNatClampNeg (vp_nar .byte (stD 1 (((x7 / 100) * 100) - x7).toNatClampNeg)))))]] := Y
            have hw := hw.2
            refine lv_goto (tgt := 22) hx hb dJ18_getChars_69 (by decide) ?_
            obtain ⟨n13, hlt, hw⟩ := hw
            exact ihn6 n13 hlt (x7 / 100) ((x8 + (-1)) + (-1)) (upd (upd z9 (x8 + (-1)).toNatClampNeg (vp_nar .byte (stD 0 (((x7 / 100) * 100) - x7).toNatClampNeg))) ((x8 + (-1)) + (-1)).toNatClampNeg (vp_nar .byte (stD 1 (((x7 / 100) * 100) - x7).toNatClampNeg))) H locs ls hw Y (lv_sub hl [1, 4, 0, 5] rfl)
      obtain ⟨n0, hw0⟩ := hw0
      exact hI5 n0 x4 a2 f H locs ls hw0 Y (lv_sub hl [0, 1, 2, 3] rfl)
    refine lv_if_ne (tgt := 22) hx hb dJ18_getChars_16 (by decide) (fun hc => ?_) (fun hc => ?_)
    · have hw := hw.2 hc
      exact hJ3 a1 H locs ls hw Y (lv_sub hl [1, 2, 3, 0] rfl)
    · have hw := hw.1 hc
      refine lv_iload_n hx hb dJ18_getChars_19 rfl (lv_at hl 1 rfl) ?_
      refine lv_ineg hx hb dJ18_getChars_20 ?_
      refine lv_istore_n (lv' := [(0, .int (-a1)), (6, .int x2), (2, .ref va), (5, .int a2)]) hx hb dJ18_getChars_21 rfl hl (by decide) rfl (fun ls hl => ?_)
      exact hJ3 (-a1) H locs ls hw Y (lv_sub hl [0, 2, 3, 1] rfl)
  refine lv_if_ge (tgt := 11) hx hb dJ18_getChars_4 (by decide) (fun hc => ?_) (fun hc => ?_)
  · have hw := hw.1 hc
    refine lv_iconst (v := 0) hx hb dJ18_getChars_11 rfl ?_
    exact hJ1 0 H locs ls hw Y (lv_sub hl [1, 3, 0] rfl)
  · have hw := hw.2 hc
    refine lv_iconst (v := 1) hx hb dJ18_getChars_7 rfl ?_
    refine lv_goto (tgt := 12) hx hb dJ18_getChars_8 (by decide) ?_
    exact hJ1 1 H locs ls hw Y (lv_sub hl [1, 3, 0] rfl)
def wpJ5_append (mc ms : Nat) (K : (Int32) → (Nat) → (Nat) → (Nat → Int32) → Prop)  (o : Nat) (cd : Int32) (ml : Int32) (n : Int32) (va : Nat) (cp : Nat) (f : Nat → Int32) (a1 : Int32) : Prop := wpJ18_stringSize (fun r1 => (∃ mc5 ms6 : Nat, (0 + mc5 ≤ mc ∧ 0 + ms6 ≤ ms) ∧ wpJ5_ensureCapacityInternal mc5 ms6 (fun q2 q3 z4 => (wpJ5_isLatin1 (fun r7 => ((r7 = 0 → (False)) ∧ (¬ r7 = 0 → (wpJ18_getChars (fun r8 z9 => (K (n + r1) q2 q3 z9))  q2 q3 z4 a1 (n + r1)))))  o cd ml n q2 q3 z4))  o cd ml n va cp f (n + r1)))  a1
abbrev rmJ5_append (mc ms : Nat) : Room := { frames := 4, cells := mc, slots := ms, locals := 104 }
theorem hdJ5_append : yJ5_append.cls ≠ "java/lang/invoke/MethodHandle" ∧ yJ5_append.cls ≠ "java/lang/invoke/VarHandle" ∧ (parseMethodDescriptor yJ5_append.desc).map (fun d => d.parameters.length) = some 1 := by decide +kernel
theorem hpJ5_append : yJ5_append.name ≠ "<init>" ∧ (parseMethodDescriptor yJ5_append.desc).map (fun d => d.parameters.length) = some 1 := by decide +kernel
theorem huJ5_append : RJ5 ≠ "java/lang/invoke/MethodHandle" ∧ RJ5 ≠ "java/lang/invoke/VarHandle" ∧ (parseMethodDescriptor yJ5_append.desc).map (fun d => d.parameters.length) = some 1 := by decide +kernel
set_option maxHeartbeats 4000000 in
theorem mtJ5_append {Γ : gT} {l : Launch} {mc ms : Nat} {o : Nat} {cd : Int32} {ml : Int32} {n : Int32} {va : Nat} {cp : Nat} {f : Nat → Int32} {a1 : Int32} {K : (Int32) → (Nat) → (Nat) → (Nat → Int32) → Prop}  (hw : wpJ5_append mc ms K  o cd ml n va cp f a1) : cR Γ l yJ5_append (ws_ yJ5_append cJ5_append 4 (some (.object "java/lang/AbstractStringBuilder"))) (rmJ5_append mc ms) (eN Γ) [.ref o, .int a1] [[(o, .inr (15, [.ref va, .int cd, .int ml, .int n]))], [(va, .inl (Γ.2.1 3, cp, .inl f))]] (fun u : (Int32) × (Nat) × (Nat) × (Nat → Int32) => [[(o, .inr (15, [.ref u.2.1, .int cd, .int ml, .int u.1]))], [(u.2.1, .inl (Γ.2.1 3, u.2.2.1, .inl u.2.2.2))]]) (fun r u => r = some o ∧ K u.1 u.2.1 u.2.2.1 u.2.2.2) := by
  refine cR_of (by decide +kernel) (Nat.le_of_ble_eq_true rfl) ?_
  intro p e s m args below meth c ls A Q hQ X hr hlk hnm hE Y hl
  have hx := X.1
  have hb := X.2.1
  have hl : lv_has ls 4 [(0, .ref o), (1, .int a1)] := hl
  unfold wpJ5_append at hw
  obtain ⟨H, hH⟩ : ∃ H : Heap, H = s.heap := ⟨_, rfl⟩
  obtain ⟨locs, hlo⟩ : ∃ locs : List Loc, locs = [] := ⟨_, rfl⟩
  rw [← hH, ← hlo] at Y
  rw [← hH, ← hlo]
  have hk : 0 ≤ mc ∧ 0 ≤ ms := ⟨Nat.zero_le _, Nat.zero_le _⟩
  refine lv_aload_n hx hb dJ5_append_0 rfl (lv_at hl 0 rfl) ?_
  refine ob_get X Y 0 rfl fcJ6 3 (by decide) (X.2.2.2.2.1 _ q286) rfl dJ5_append_1 ?_
  refine lv_istore_n (lv' := [(2, .int n), (0, .ref o), (1, .int a1)]) hx hb dJ5_append_4 rfl hl (by decide) rfl (fun ls hl => ?_)
  refine lv_iload_n hx hb dJ5_append_5 rfl (lv_at hl 0 rfl) ?_
  refine lv_iload_n hx hb dJ5_append_6 rfl (lv_at hl 2 rfl) ?_
  refine cl_SI X Y [] [0, 1] rfl rfl rfl E0_bl (fun _ _ _ => trivial) (mtJ18_stringSize (Γ := Γ) (l := l) hw) (lw_S q740 q741 q157 q742) hdJ18_stringSize ⟨Nat.le_of_ble_eq_true rfl, Nat.le_of_ble_eq_true rfl⟩ rfl hl.1 rfl (Nat.le_of_ble_eq_true rfl) dJ5_append_7 hk (fun r1 u H locs hw Y => ?_)
  have Y : Wo Γ A s H locs [[(o, .inr (15, [.ref va, .int cd, .int ml, .int n]))], [(va, .inl (Γ.2.1 3, cp, .inl f))]] := Y
  refine lv_iadd hx hb dJ5_append_10 ?_
  refine lv_istore_n (lv' := [(3, .int (n + r1)), (2, .int n), (0, .ref o), (1, .int a1)]) hx hb dJ5_append_11 rfl hl (by decide) rfl (fun ls hl => ?_)
  refine lv_aload_n hx hb dJ5_append_12 rfl (lv_at hl 2 rfl) ?_
  refine lv_iload_n hx hb dJ5_append_13 rfl (lv_at hl 0 rfl) ?_
  obtain ⟨mc5, ms6, hk2, hw⟩ := hw
  refine cv_KV X Y [0, 1] [] rfl rfl rfl eN_bl (fun U hU hW => ((eN_tr.at X hE Y [0, 1] [] rfl rfl) U hU hW)) (mtJ5_ensureCapacityInternal (Γ := Γ) (l := l) (mc := mc5) (ms := ms6) hw) (eN_sp hE 3 rfl) q743 q3733 q745 q139 q746 huJ5_ensureCapacityInternal ⟨Nat.le_of_ble_eq_true rfl, Nat.le_of_ble_eq_true rfl⟩ (ob_cell X Y (b := 0) rfl List.mem_cons_self fcJ6) rfl hl.1 rfl (Nat.le_of_ble_eq_true rfl) dJ5_append_14 hk2 (fun  u H locs hw Y => ?_)
  obtain ⟨q2, q3, z4⟩ := u
  have hk : 0 + mc5 ≤ mc ∧ 0 + ms6 ≤ ms := hk2
  have Y : Wo Γ A s H locs [[(o, .inr (15, [.ref q2, .int cd, .int ml, .int n]))], [(q2, .inl (Γ.2.1 3, q3, .inl z4))]] := Y
  refine lv_aload_n hx hb dJ5_append_17 rfl (lv_at hl 2 rfl) ?_
  refine cv_UI X Y [0, 1] [] rfl rfl rfl eN_bl (fun U hU hW => ((eN_tr.at X hE Y [0, 1] [] rfl rfl) U hU hW)) (mtJ5_isLatin1 (Γ := Γ) (l := l) hw) (lw_U q774 q671 q672 q670 q139 q673) rfl huJ5_isLatin1 ⟨Nat.le_of_ble_eq_true rfl, Nat.le_of_ble_eq_true rfl⟩ (ob_cell X Y (b := 0) rfl List.mem_cons_self fcJ6) rfl hl.1 rfl (Nat.le_of_ble_eq_true rfl) dJ5_append_18 hk (fun r7 u H locs hw Y => ?_)
  have Y : Wo Γ A s H locs [[(o, .inr (15, [.ref q2, .int cd, .int ml, .int n]))], [(q2, .inl (Γ.2.1 3, q3, .inl z4))]] := Y
  refine lv_if_eq (tgt := 37) hx hb dJ5_append_21 (by decide) (fun hc => ?_) (fun hc => ?_)
  · have hw := hw.1 hc
    refine lv_iload_n hx hb dJ5_append_37 rfl (lv_at hl 3 rfl) ?_
    refine lv_iload_n hx hb dJ5_append_38 rfl (lv_at hl 1 rfl) ?_
    refine lv_iload_n hx hb dJ5_append_39 rfl (lv_at hl 0 rfl) ?_
    refine lv_aload_n hx hb dJ5_append_40 rfl (lv_at hl 2 rfl) ?_
    refine ob_get X Y 0 rfl fcJ6 0 (by decide) (X.2.2.2.2.1 _ q282) rfl dJ5_append_41 ?_
    exact hw.elim
  · have hw := hw.2 hc
    refine lv_iload_n hx hb dJ5_append_24 rfl (lv_at hl 3 rfl) ?_
    refine lv_iload_n hx hb dJ5_append_25 rfl (lv_at hl 0 rfl) ?_
    refine lv_aload_n hx hb dJ5_append_26 rfl (lv_at hl 2 rfl) ?_
    refine ob_get X Y 0 rfl fcJ6 0 (by decide) (X.2.2.2.2.1 _ q282) rfl dJ5_append_27 ?_
    refine cl_SI X Y [1] [0] rfl rfl rfl eN_bl (fun U hU hW => ((eN_tr.at X hE Y [1] [0] rfl rfl) U hU hW)) (mtJ18_getChars (Γ := Γ) (l := l) hw) (lw_S q775 q776 q157 q777) hdJ18_getChars ⟨Nat.le_of_ble_eq_true rfl, Nat.le_of_ble_eq_true rfl⟩ rfl hl.1 rfl (Nat.le_of_ble_eq_true rfl) dJ5_append_30 hk (fun r8 u H locs hw Y => ?_)
    obtain ⟨z9, rfl⟩ : ∃ z, z = u := ⟨_, rfl⟩
    have Y : Wo Γ A s H locs [[(q2, .inl (Γ.2.1 3, q3, .inl z9))], [(o, .inr (15, [.ref q2, .int cd, .int ml, .int n]))]] := Y
    refine lv_pop hx hb dJ5_append_33 rfl ?_
    refine lv_goto (tgt := 48) hx hb dJ5_append_34 (by decide) ?_
    refine lv_aload_n hx hb dJ5_append_48 rfl (lv_at hl 2 rfl) ?_
    refine lv_iload_n hx hb dJ5_append_49 rfl (lv_at hl 0 rfl) ?_
    refine ob_put X Y 1 rfl fcJ6 3 (by decide) (X.2.2.2.2.1 _ q286) rfl rfl rfl (Nat.le_of_ble_eq_true rfl) dJ5_append_50 (fun H locs Y => ?_)
    have Y : Wo Γ A s H locs [[(q2, .inl (Γ.2.1 3, q3, .inl z9))], [(o, .inr (15, [.ref q2, .int cd, .int ml, .int (n + r1)]))]] := Y
    refine lv_aload_n hx hb dJ5_append_53 rfl (lv_at hl 2 rfl) ?_
    have Y : Wo Γ A s H locs [[(o, .inr (15, [.ref q2, .int cd, .int ml, .int (n + r1)]))], [(q2, .inl (Γ.2.1 3, q3, .inl z9))]] := Y.perm [1, 0] rfl rfl
    subst hQ
    exact re_r (r := some o) X Y hr (by first | exact Or.inl ⟨_, rfl⟩ | exact Or.inr ⟨_, rfl⟩) hlk (n + r1, q2, q3, z9) rfl ⟨rfl, hw⟩ (hk.1) (hk.2) dJ5_append_54
def wpJ6_append (mc ms : Nat) (K : (Int32) → (Nat) → (Nat) → (Nat → Int32) → Prop)  (o : Nat) (cd : Int32) (ml : Int32) (n : Int32) (va : Nat) (cp : Nat) (f : Nat → Int32) (a1 : Int32) : Prop := ∃ mc5 ms6 : Nat, (0 + mc5 ≤ mc ∧ 0 + ms6 ≤ ms) ∧ wpJ5_append mc5 ms6 (fun z1 q2 q3 z4 => (K z1 q2 q3 z4))  o cd ml n va cp f a1
abbrev rmJ6_append (mc ms : Nat) : Room := { frames := 5, cells := mc, slots := ms, locals := 127 }
theorem hdJ6_append : yJ6_append.cls ≠ "java/lang/invoke/MethodHandle" ∧ yJ6_append.cls ≠ "java/lang/invoke/VarHandle" ∧ (parseMethodDescriptor yJ6_append.desc).map (fun d => d.parameters.length) = some 1 := by decide +kernel
theorem hpJ6_append : yJ6_append.name ≠ "<init>" ∧ (parseMethodDescriptor yJ6_append.desc).map (fun d => d.parameters.length) = some 1 := by decide +kernel
theorem huJ6_append : RJ6 ≠ "java/lang/invoke/MethodHandle" ∧ RJ6 ≠ "java/lang/invoke/VarHandle" ∧ (parseMethodDescriptor yJ6_append.desc).map (fun d => d.parameters.length) = some 1 := by decide +kernel
set_option maxHeartbeats 4000000 in
theorem mtJ6_append {Γ : gT} {l : Launch} {mc ms : Nat} {o : Nat} {cd : Int32} {ml : Int32} {n : Int32} {va : Nat} {cp : Nat} {f : Nat → Int32} {a1 : Int32} {K : (Int32) → (Nat) → (Nat) → (Nat → Int32) → Prop}  (hw : wpJ6_append mc ms K  o cd ml n va cp f a1) : cR Γ l yJ6_append (ws_ yJ6_append cJ6_append 2 (some (.object "java/lang/StringBuilder"))) (rmJ6_append mc ms) (eN Γ) [.ref o, .int a1] [[(o, .inr (15, [.ref va, .int cd, .int ml, .int n]))], [(va, .inl (Γ.2.1 3, cp, .inl f))]] (fun u : (Int32) × (Nat) × (Nat) × (Nat → Int32) => [[(o, .inr (15, [.ref u.2.1, .int cd, .int ml, .int u.1]))], [(u.2.1, .inl (Γ.2.1 3, u.2.2.1, .inl u.2.2.2))]]) (fun r u => r = some o ∧ K u.1 u.2.1 u.2.2.1 u.2.2.2) := by
  refine cR_of (by decide +kernel) (Nat.le_of_ble_eq_true rfl) ?_
  intro p e s m args below meth c ls A Q hQ X hr hlk hnm hE Y hl
  have hx := X.1
  have hb := X.2.1
  have hl : lv_has ls 2 [(0, .ref o), (1, .int a1)] := hl
  unfold wpJ6_append at hw
  obtain ⟨H, hH⟩ : ∃ H : Heap, H = s.heap := ⟨_, rfl⟩
  obtain ⟨locs, hlo⟩ : ∃ locs : List Loc, locs = [] := ⟨_, rfl⟩
  rw [← hH, ← hlo] at Y
  rw [← hH, ← hlo]
  have hk : 0 ≤ mc ∧ 0 ≤ ms := ⟨Nat.zero_le _, Nat.zero_le _⟩
  refine lv_aload_n hx hb dJ6_append_0 rfl (lv_at hl 0 rfl) ?_
  refine lv_iload_n hx hb dJ6_append_1 rfl (lv_at hl 1 rfl) ?_
  obtain ⟨mc5, ms6, hk2, hw⟩ := hw
  refine cv_PR (ob_at X fcJ6) X Y [0, 1] [] rfl rfl rfl eN_bl (fun U hU hW => ((eN_tr.at X hE Y [0, 1] [] rfl rfl) U hU hW)) (mtJ5_append (Γ := Γ) (l := l) (mc := mc5) (ms := ms6) hw) (lw_P q737 q3732 q295 q738 q139 q739) hpJ5_append ⟨Nat.le_of_ble_eq_true rfl, Nat.le_of_ble_eq_true rfl⟩ (ob_cell X Y (b := 0) rfl List.mem_cons_self fcJ6) rfl hl.1 rfl (Nat.le_of_ble_eq_true rfl) dJ6_append_2 hk2 (fun r u H locs hw Y => ?_)
  obtain ⟨z1, q2, q3, z4⟩ := u
  obtain ⟨rfl, hw⟩ := hw
  have hk : 0 + mc5 ≤ mc ∧ 0 + ms6 ≤ ms := hk2
  have Y : Wo Γ A s H locs [[(o, .inr (15, [.ref q2, .int cd, .int ml, .int z1]))], [(q2, .inl (Γ.2.1 3, q3, .inl z4))]] := Y
  refine lv_pop hx hb dJ6_append_5 rfl ?_
  refine lv_aload_n hx hb dJ6_append_6 rfl (lv_at hl 0 rfl) ?_
  subst hQ
  exact re_r (r := some o) X Y hr (by first | exact Or.inl ⟨_, rfl⟩ | exact Or.inr ⟨_, rfl⟩) hlk (z1, q2, q3, z4) rfl ⟨rfl, hw⟩ (hk.1) (hk.2) dJ6_append_7
def wpJ7_value (K : (Option Nat) → Prop)  (sa : Nat) (sv : Nat) (sn : Nat) (sf : Nat → Int32) : Prop := K (some sv)
abbrev rmJ7_value : Room := { frames := 0, cells := 0, slots := 0, locals := 0 }
theorem hdJ7_value : yJ7_value.cls ≠ "java/lang/invoke/MethodHandle" ∧ yJ7_value.cls ≠ "java/lang/invoke/VarHandle" ∧ (parseMethodDescriptor yJ7_value.desc).map (fun d => d.parameters.length) = some 0 := by decide +kernel
theorem hpJ7_value : yJ7_value.name ≠ "<init>" ∧ (parseMethodDescriptor yJ7_value.desc).map (fun d => d.parameters.length) = some 0 := by decide +kernel
theorem huJ7_value : RJ7 ≠ "java/lang/invoke/MethodHandle" ∧ RJ7 ≠ "java/lang/invoke/VarHandle" ∧ (parseMethodDescriptor yJ7_value.desc).map (fun d => d.parameters.length) = some 0 := by decide +kernel
set_option maxHeartbeats 4000000 in
theorem mtJ7_value {Γ : gT} {l : Launch} {sa : Nat} {sv : Nat} {sn : Nat} {sf : Nat → Int32} {K : (Option Nat) → Prop}  (hw : wpJ7_value K  sa sv sn sf) : cR Γ l yJ7_value (ws_ yJ7_value cJ7_value 1 (some (.array .byte))) rmJ7_value (eR sa sv sn sf) [.ref sa] [] (fun u : Unit => []) (fun r u => K r ) := by
  refine cR_of (by decide +kernel) (Nat.le_of_ble_eq_true rfl) ?_
  intro p e s m args below meth c ls A Q hQ X hr hlk hnm hE Y hl
  have hx := X.1
  have hb := X.2.1
  have hl : lv_has ls 1 [(0, .ref sa)] := hl
  unfold wpJ7_value at hw
  obtain ⟨H, hH⟩ : ∃ H : Heap, H = s.heap := ⟨_, rfl⟩
  obtain ⟨locs, hlo⟩ : ∃ locs : List Loc, locs = [] := ⟨_, rfl⟩
  rw [← hH, ← hlo] at Y
  rw [← hH, ← hlo]
  refine lv_aload_n hx hb dJ7_value_0 rfl (lv_at hl 0 rfl) ?_
  refine vk_getf hx hb hE.2.2.1 Y.2.2 X.2.2.2.1 (X.2.2.2.2.1 _ q879) (fun _ h => h) dJ7_value_1 ?_
  subst hQ
  exact re_r (r := some sv) X Y hr (by first | exact Or.inl ⟨_, rfl⟩ | exact Or.inr ⟨_, rfl⟩) hlk () rfl hw (Nat.le_of_ble_eq_true rfl) (Nat.le_of_ble_eq_true rfl) dJ7_value_4
def wpJ7_getBytes (K : (Nat → Int32) → Prop)  (va : Nat) (cp : Nat) (f : Nat → Int32) (sa : Nat) (sv : Nat) (sn : Nat) (sf : Nat → Int32) (a1 : Int32) (a2 : Int32) : Prop := wpJ7_coder (fun r1 => ((r1 = a2 → ((¬ (0 : Int32) < 0 ∧ ¬ (a1 <<< (a2 &&& 31)) < 0 ∧ ¬ (nI sn) < 0 ∧ (0 : Int32).toNatClampNeg + (nI sn).toNatClampNeg ≤ sn ∧ (a1 <<< (a2 &&& 31)).toNatClampNeg + (nI sn).toNatClampNeg ≤ cp ∧ (∀ i : Nat, i < (nI sn).toNatClampNeg → fits .byte (.int (sf ((0 : Int32).toNatClampNeg + i))) = true)) ∧ (K (va_cpy sf f (0 : Int32).toNatClampNeg (a1 <<< (a2 &&& 31)).toNatClampNeg (nI sn).toNatClampNeg)))) ∧ (¬ r1 = a2 → (False))))  sa sv sn sf
abbrev rmJ7_getBytes : Room := { frames := 1, cells := 0, slots := 0, locals := 60 }
theorem hdJ7_getBytes : yJ7_getBytes.cls ≠ "java/lang/invoke/MethodHandle" ∧ yJ7_getBytes.cls ≠ "java/lang/invoke/VarHandle" ∧ (parseMethodDescriptor yJ7_getBytes.desc).map (fun d => d.parameters.length) = some 3 := by decide +kernel
theorem hpJ7_getBytes : yJ7_getBytes.name ≠ "<init>" ∧ (parseMethodDescriptor yJ7_getBytes.desc).map (fun d => d.parameters.length) = some 3 := by decide +kernel
theorem huJ7_getBytes : RJ7 ≠ "java/lang/invoke/MethodHandle" ∧ RJ7 ≠ "java/lang/invoke/VarHandle" ∧ (parseMethodDescriptor yJ7_getBytes.desc).map (fun d => d.parameters.length) = some 3 := by decide +kernel
set_option maxHeartbeats 4000000 in
theorem mtJ7_getBytes {Γ : gT} {l : Launch} {va : Nat} {cp : Nat} {f : Nat → Int32} {sa : Nat} {sv : Nat} {sn : Nat} {sf : Nat → Int32} {a1 : Int32} {a2 : Int32} {K : (Nat → Int32) → Prop}  (hw : wpJ7_getBytes K  va cp f sa sv sn sf a1 a2) : cV Γ l yJ7_getBytes (ws_ yJ7_getBytes cJ7_getBytes 4 none) rmJ7_getBytes (eA (eR sa sv sn sf) (eN Γ)) [.ref sa, .ref va, .int a1, .int a2] [[(va, .inl (Γ.2.1 3, cp, .inl f))]] (fun u : (Nat → Int32) => [[(va, .inl (Γ.2.1 3, cp, .inl u))]]) (fun u => K u) := by
  refine cV_of (by decide +kernel) (Nat.le_of_ble_eq_true rfl) ?_
  intro p e s m args below meth c ls A Q hQ X hr hlk hnm hE Y hl
  have hx := X.1
  have hb := X.2.1
  have hl : lv_has ls 4 [(0, .ref sa), (1, .ref va), (2, .int a1), (3, .int a2)] := hl
  unfold wpJ7_getBytes at hw
  obtain ⟨H, hH⟩ : ∃ H : Heap, H = s.heap := ⟨_, rfl⟩
  obtain ⟨locs, hlo⟩ : ∃ locs : List Loc, locs = [] := ⟨_, rfl⟩
  rw [← hH, ← hlo] at Y
  rw [← hH, ← hlo]
  refine lv_aload_n hx hb dJ7_getBytes_0 rfl (lv_at hl 0 rfl) ?_
  refine cv_VI X Y [] [0] rfl rfl rfl (eA_bl eR_bl eN_bl) (fun U hU hW => ⟨((eR_tr.at X hE.1 Y [] [0] rfl rfl) U hU hW), ((eN_tr.at X hE.2 Y [] [0] rfl rfl) U hU hW)⟩) (mtJ7_coder (Γ := Γ) (l := l) hw) (lw_V q522 q523 q524 q141 q525) ⟨rfl, hdJ7_coder⟩ ⟨Nat.le_of_ble_eq_true rfl, Nat.le_of_ble_eq_true rfl⟩ (ro_recv Y hE.1) rfl hl.1 rfl (Nat.le_of_ble_eq_true rfl) dJ7_getBytes_1 ⟨Nat.le_of_ble_eq_true rfl, Nat.le_of_ble_eq_true rfl⟩ (fun r1 u H locs hw Y => ?_)
  have Y : Wo Γ A s H locs [[(va, .inl (Γ.2.1 3, cp, .inl f))]] := Y
  refine lv_iload_n hx hb dJ7_getBytes_4 rfl (lv_at hl 3 rfl) ?_
  refine lv_icmp_ne (tgt := 28) hx hb dJ7_getBytes_5 (by decide) (fun hc => ?_) (fun hc => ?_)
  · have hw := hw.2 hc
    refine lv_aload_n hx hb dJ7_getBytes_28 rfl (lv_at hl 0 rfl) ?_
    refine vk_getf hx hb hE.1.2.2.1 Y.2.2 X.2.2.2.1 (X.2.2.2.2.1 _ q879) (fun _ h => h) dJ7_getBytes_29 ?_
    refine lv_iconst (v := 0) hx hb dJ7_getBytes_32 rfl ?_
    refine lv_aload_n hx hb dJ7_getBytes_33 rfl (lv_at hl 1 rfl) ?_
    refine lv_iload_n hx hb dJ7_getBytes_34 rfl (lv_at hl 2 rfl) ?_
    refine lv_aload_n hx hb dJ7_getBytes_35 rfl (lv_at hl 0 rfl) ?_
    refine vk_getf hx hb hE.1.2.2.1 Y.2.2 X.2.2.2.1 (X.2.2.2.2.1 _ q879) (fun _ h => h) dJ7_getBytes_36 ?_
    refine ro_len X Y (eR_arr hE.1) dJ7_getBytes_39 ?_
    exact hw.elim
  · have hw := hw.1 hc
    refine lv_aload_n hx hb dJ7_getBytes_8 rfl (lv_at hl 0 rfl) ?_
    refine vk_getf hx hb hE.1.2.2.1 Y.2.2 X.2.2.2.1 (X.2.2.2.2.1 _ q879) (fun _ h => h) dJ7_getBytes_9 ?_
    refine lv_iconst (v := 0) hx hb dJ7_getBytes_12 rfl ?_
    refine lv_aload_n hx hb dJ7_getBytes_13 rfl (lv_at hl 1 rfl) ?_
    refine lv_iload_n hx hb dJ7_getBytes_14 rfl (lv_at hl 2 rfl) ?_
    refine lv_iload_n hx hb dJ7_getBytes_15 rfl (lv_at hl 3 rfl) ?_
    refine lv_ishl hx hb dJ7_getBytes_16 ?_
    refine lv_aload_n hx hb dJ7_getBytes_17 rfl (lv_at hl 0 rfl) ?_
    refine vk_getf hx hb hE.1.2.2.1 Y.2.2 X.2.2.2.1 (X.2.2.2.2.1 _ q879) (fun _ h => h) dJ7_getBytes_18 ?_
    refine ro_len X Y (eR_arr hE.1) dJ7_getBytes_21 ?_
    obtain ⟨⟨w1, w2, w3, w4, w5, w6⟩, hw⟩ := hw
    refine ro_cpy X Y (eR_arr hE.1) (arAt_ar Y 0 (t := 3) rfl) q841 q773 q772 q148 hl.1 w1 w2 w3 w4 w5 w6 (Nat.le_of_ble_eq_true rfl) (Nat.le_of_ble_eq_true rfl) dJ7_getBytes_22 (fun H locs Y => ?_)
    have Y : Wo Γ A s H locs [[(va, .inl (Γ.2.1 3, cp, .inl (va_cpy sf f (0 : Int32).toNatClampNeg (a1 <<< (a2 &&& 31)).toNatClampNeg (nI sn).toNatClampNeg)))]] := Y
    refine lv_goto (tgt := 43) hx hb dJ7_getBytes_25 (by decide) ?_
    subst hQ
    exact re_v X Y hr hlk (va_cpy sf f (0 : Int32).toNatClampNeg (a1 <<< (a2 &&& 31)).toNatClampNeg (nI sn).toNatClampNeg) rfl hw (Nat.le_of_ble_eq_true rfl) (Nat.le_of_ble_eq_true rfl) dJ7_getBytes_43
def wpJ5_inflateIfNeededFor (K : Prop)  (o : Nat) (cd : Int32) (ml : Int32) (n : Int32) (va : Nat) (cp : Nat) (f : Nat → Int32) (sa : Nat) (sv : Nat) (sn : Nat) (sf : Nat → Int32) : Prop := ((1 : Int32) = 0 → (K)) ∧ (¬ (1 : Int32) = 0 → (wpJ7_coder (fun r1 => ((cd = r1 → (K)) ∧ (¬ cd = r1 → (False))))  sa sv sn sf))
abbrev rmJ5_inflateIfNeededFor : Room := { frames := 1, cells := 0, slots := 0, locals := 20 }
theorem hdJ5_inflateIfNeededFor : yJ5_inflateIfNeededFor.cls ≠ "java/lang/invoke/MethodHandle" ∧ yJ5_inflateIfNeededFor.cls ≠ "java/lang/invoke/VarHandle" ∧ (parseMethodDescriptor yJ5_inflateIfNeededFor.desc).map (fun d => d.parameters.length) = some 1 := by decide +kernel
theorem hpJ5_inflateIfNeededFor : yJ5_inflateIfNeededFor.name ≠ "<init>" ∧ (parseMethodDescriptor yJ5_inflateIfNeededFor.desc).map (fun d => d.parameters.length) = some 1 := by decide +kernel
theorem huJ5_inflateIfNeededFor : RJ5 ≠ "java/lang/invoke/MethodHandle" ∧ RJ5 ≠ "java/lang/invoke/VarHandle" ∧ (parseMethodDescriptor yJ5_inflateIfNeededFor.desc).map (fun d => d.parameters.length) = some 1 := by decide +kernel
set_option maxHeartbeats 4000000 in
theorem mtJ5_inflateIfNeededFor {Γ : gT} {l : Launch} {o : Nat} {cd : Int32} {ml : Int32} {n : Int32} {va : Nat} {cp : Nat} {f : Nat → Int32} {sa : Nat} {sv : Nat} {sn : Nat} {sf : Nat → Int32} {K : Prop}  (hw : wpJ5_inflateIfNeededFor K  o cd ml n va cp f sa sv sn sf) : cV Γ l yJ5_inflateIfNeededFor (ws_ yJ5_inflateIfNeededFor cJ5_inflateIfNeededFor 2 none) rmJ5_inflateIfNeededFor (eA (eR sa sv sn sf) (eN Γ)) [.ref o, .ref sa] [[(o, .inr (15, [.ref va, .int cd, .int ml, .int n]))], [(va, .inl (Γ.2.1 3, cp, .inl f))]] (fun u : Unit => [[(o, .inr (15, [.ref va, .int cd, .int ml, .int n]))], [(va, .inl (Γ.2.1 3, cp, .inl f))]]) (fun _ => K) := by
  refine cV_of (by decide +kernel) (Nat.le_of_ble_eq_true rfl) ?_
  intro p e s m args below meth c ls A Q hQ X hr hlk hnm hE Y hl
  have hx := X.1
  have hb := X.2.1
  have hl : lv_has ls 2 [(0, .ref o), (1, .ref sa)] := hl
  unfold wpJ5_inflateIfNeededFor at hw
  obtain ⟨H, hH⟩ : ∃ H : Heap, H = s.heap := ⟨_, rfl⟩
  obtain ⟨locs, hlo⟩ : ∃ locs : List Loc, locs = [] := ⟨_, rfl⟩
  rw [← hH, ← hlo] at Y
  rw [← hH, ← hlo]
  refine st_getI X Y hE.2 0 rfl (X.2.2.2.2.1 _ q273) dJ5_inflateIfNeededFor_0 ?_
  refine lv_if_eq (tgt := 21) hx hb dJ5_inflateIfNeededFor_3 (by decide) (fun hc => ?_) (fun hc => ?_)
  · have hw := hw.1 hc
    subst hQ
    exact re_v X Y hr hlk () rfl hw (Nat.le_of_ble_eq_true rfl) (Nat.le_of_ble_eq_true rfl) dJ5_inflateIfNeededFor_21
  · have hw := hw.2 hc
    refine lv_aload_n hx hb dJ5_inflateIfNeededFor_6 rfl (lv_at hl 0 rfl) ?_
    refine ob_get X Y 0 rfl fcJ6 1 (by decide) (X.2.2.2.2.1 _ q283) rfl dJ5_inflateIfNeededFor_7 ?_
    refine lv_aload_n hx hb dJ5_inflateIfNeededFor_10 rfl (lv_at hl 1 rfl) ?_
    refine cv_VI X Y [] [0, 1] rfl rfl rfl (eA_bl eR_bl eN_bl) (fun U hU hW => ⟨((eR_tr.at X hE.1 Y [] [0, 1] rfl rfl) U hU hW), ((eN_tr.at X hE.2 Y [] [0, 1] rfl rfl) U hU hW)⟩) (mtJ7_coder (Γ := Γ) (l := l) hw) (lw_V q817 q523 q524 q141 q525) ⟨rfl, hdJ7_coder⟩ ⟨Nat.le_of_ble_eq_true rfl, Nat.le_of_ble_eq_true rfl⟩ (ro_recv Y hE.1) rfl hl.1 rfl (Nat.le_of_ble_eq_true rfl) dJ5_inflateIfNeededFor_11 ⟨Nat.le_of_ble_eq_true rfl, Nat.le_of_ble_eq_true rfl⟩ (fun r1 u H locs hw Y => ?_)
    have Y : Wo Γ A s H locs [[(o, .inr (15, [.ref va, .int cd, .int ml, .int n]))], [(va, .inl (Γ.2.1 3, cp, .inl f))]] := Y
    refine lv_icmp_eq (tgt := 21) hx hb dJ5_inflateIfNeededFor_14 (by decide) (fun hc => ?_) (fun hc => ?_)
    · have hw := hw.1 hc
      subst hQ
      exact re_v X Y hr hlk () rfl hw (Nat.le_of_ble_eq_true rfl) (Nat.le_of_ble_eq_true rfl) dJ5_inflateIfNeededFor_21
    · have hw := hw.2 hc
      refine lv_aload_n hx hb dJ5_inflateIfNeededFor_17 rfl (lv_at hl 0 rfl) ?_
      exact hw.elim
def wpJ5_putStringAt (K : (Nat → Int32) → Prop)  (o : Nat) (cd : Int32) (ml : Int32) (n : Int32) (va : Nat) (cp : Nat) (f : Nat → Int32) (sa : Nat) (sv : Nat) (sn : Nat) (sf : Nat → Int32) (a1 : Int32) : Prop := wpJ5_inflateIfNeededFor (wpJ7_getBytes (fun z1 => (K z1))  va cp f sa sv sn sf a1 cd)  o cd ml n va cp f sa sv sn sf
abbrev rmJ5_putStringAt : Room := { frames := 2, cells := 0, slots := 0, locals := 83 }
theorem hdJ5_putStringAt : yJ5_putStringAt.cls ≠ "java/lang/invoke/MethodHandle" ∧ yJ5_putStringAt.cls ≠ "java/lang/invoke/VarHandle" ∧ (parseMethodDescriptor yJ5_putStringAt.desc).map (fun d => d.parameters.length) = some 2 := by decide +kernel
theorem hpJ5_putStringAt : yJ5_putStringAt.name ≠ "<init>" ∧ (parseMethodDescriptor yJ5_putStringAt.desc).map (fun d => d.parameters.length) = some 2 := by decide +kernel
theorem huJ5_putStringAt : RJ5 ≠ "java/lang/invoke/MethodHandle" ∧ RJ5 ≠ "java/lang/invoke/VarHandle" ∧ (parseMethodDescriptor yJ5_putStringAt.desc).map (fun d => d.parameters.length) = some 2 := by decide +kernel
set_option maxHeartbeats 4000000 in
theorem mtJ5_putStringAt {Γ : gT} {l : Launch} {o : Nat} {cd : Int32} {ml : Int32} {n : Int32} {va : Nat} {cp : Nat} {f : Nat → Int32} {sa : Nat} {sv : Nat} {sn : Nat} {sf : Nat → Int32} {a1 : Int32} {K : (Nat → Int32) → Prop}  (hw : wpJ5_putStringAt K  o cd ml n va cp f sa sv sn sf a1) : cV Γ l yJ5_putStringAt (ws_ yJ5_putStringAt cJ5_putStringAt 3 none) rmJ5_putStringAt (eA (eR sa sv sn sf) (eN Γ)) [.ref o, .int a1, .ref sa] [[(o, .inr (15, [.ref va, .int cd, .int ml, .int n]))], [(va, .inl (Γ.2.1 3, cp, .inl f))]] (fun u : (Nat → Int32) => [[(o, .inr (15, [.ref va, .int cd, .int ml, .int n]))], [(va, .inl (Γ.2.1 3, cp, .inl u))]]) (fun u => K u) := by
  refine cV_of (by decide +kernel) (Nat.le_of_ble_eq_true rfl) ?_
  intro p e s m args below meth c ls A Q hQ X hr hlk hnm hE Y hl
  have hx := X.1
  have hb := X.2.1
  have hl : lv_has ls 3 [(0, .ref o), (1, .int a1), (2, .ref sa)] := hl
  unfold wpJ5_putStringAt at hw
  obtain ⟨H, hH⟩ : ∃ H : Heap, H = s.heap := ⟨_, rfl⟩
  obtain ⟨locs, hlo⟩ : ∃ locs : List Loc, locs = [] := ⟨_, rfl⟩
  rw [← hH, ← hlo] at Y
  rw [← hH, ← hlo]
  refine lv_aload_n hx hb dJ5_putStringAt_0 rfl (lv_at hl 0 rfl) ?_
  refine lv_aload_n hx hb dJ5_putStringAt_1 rfl (lv_at hl 2 rfl) ?_
  refine cv_KV X Y [0, 1] [] rfl rfl rfl (eA_bl eR_bl eN_bl) (fun U hU hW => ⟨((eR_tr.at X hE.1 Y [0, 1] [] rfl rfl) U hU hW), ((eN_tr.at X hE.2 Y [0, 1] [] rfl rfl) U hU hW)⟩) (mtJ5_inflateIfNeededFor (Γ := Γ) (l := l) hw) (eN_sp hE.2 6 rfl) q813 q3738 q815 q139 q816 huJ5_inflateIfNeededFor ⟨Nat.le_of_ble_eq_true rfl, Nat.le_of_ble_eq_true rfl⟩ (ob_cell X Y (b := 0) rfl List.mem_cons_self fcJ6) rfl hl.1 rfl (Nat.le_of_ble_eq_true rfl) dJ5_putStringAt_2 ⟨Nat.le_of_ble_eq_true rfl, Nat.le_of_ble_eq_true rfl⟩ (fun  u H locs hw Y => ?_)
  have Y : Wo Γ A s H locs [[(o, .inr (15, [.ref va, .int cd, .int ml, .int n]))], [(va, .inl (Γ.2.1 3, cp, .inl f))]] := Y
  refine lv_aload_n hx hb dJ5_putStringAt_5 rfl (lv_at hl 2 rfl) ?_
  refine lv_aload_n hx hb dJ5_putStringAt_6 rfl (lv_at hl 0 rfl) ?_
  refine ob_get X Y 0 rfl fcJ6 0 (by decide) (X.2.2.2.2.1 _ q282) rfl dJ5_putStringAt_7 ?_
  refine lv_iload_n hx hb dJ5_putStringAt_10 rfl (lv_at hl 1 rfl) ?_
  refine lv_aload_n hx hb dJ5_putStringAt_11 rfl (lv_at hl 0 rfl) ?_
  refine ob_get X Y 0 rfl fcJ6 1 (by decide) (X.2.2.2.2.1 _ q283) rfl dJ5_putStringAt_12 ?_
  refine cv_VV X Y [1] [0] rfl rfl rfl (eA_bl eR_bl eN_bl) (fun U hU hW => ⟨((eR_tr.at X hE.1 Y [1] [0] rfl rfl) U hU hW), ((eN_tr.at X hE.2 Y [1] [0] rfl rfl) U hU hW)⟩) (mtJ7_getBytes (Γ := Γ) (l := l) hw) (lw_V q837 q838 q839 q141 q840) ⟨rfl, hdJ7_getBytes⟩ ⟨Nat.le_of_ble_eq_true rfl, Nat.le_of_ble_eq_true rfl⟩ (ro_recv Y hE.1) rfl hl.1 rfl (Nat.le_of_ble_eq_true rfl) dJ5_putStringAt_15 ⟨Nat.le_of_ble_eq_true rfl, Nat.le_of_ble_eq_true rfl⟩ (fun  u H locs hw Y => ?_)
  obtain ⟨z1, rfl⟩ : ∃ z, z = u := ⟨_, rfl⟩
  have Y : Wo Γ A s H locs [[(va, .inl (Γ.2.1 3, cp, .inl z1))], [(o, .inr (15, [.ref va, .int cd, .int ml, .int n]))]] := Y
  have Y : Wo Γ A s H locs [[(o, .inr (15, [.ref va, .int cd, .int ml, .int n]))], [(va, .inl (Γ.2.1 3, cp, .inl z1))]] := Y.perm [1, 0] rfl rfl
  subst hQ
  exact re_v X Y hr hlk z1 rfl hw (Nat.le_of_ble_eq_true rfl) (Nat.le_of_ble_eq_true rfl) dJ5_putStringAt_18
def wpJ5_append_2 (mc ms : Nat) (K : (Int32) → (Nat) → (Nat) → (Nat → Int32) → Prop)  (o : Nat) (cd : Int32) (ml : Int32) (n : Int32) (va : Nat) (cp : Nat) (f : Nat → Int32) (sa : Nat) (sv : Nat) (sn : Nat) (sf : Nat → Int32) : Prop := wpJ7_length (fun r1 => (∃ mc5 ms6 : Nat, (0 + mc5 ≤ mc ∧ 0 + ms6 ≤ ms) ∧ wpJ5_ensureCapacityInternal mc5 ms6 (fun q2 q3 z4 => (wpJ5_putStringAt (fun z7 => (K (n + r1) q2 q3 z7))  o cd ml n q2 q3 z4 sa sv sn sf n))  o cd ml n va cp f (n + r1)))  sa sv sn sf
abbrev rmJ5_append_2 (mc ms : Nat) : Room := { frames := 4, cells := mc, slots := ms, locals := 105 }
theorem hdJ5_append_2 : yJ5_append_2.cls ≠ "java/lang/invoke/MethodHandle" ∧ yJ5_append_2.cls ≠ "java/lang/invoke/VarHandle" ∧ (parseMethodDescriptor yJ5_append_2.desc).map (fun d => d.parameters.length) = some 1 := by decide +kernel
theorem hpJ5_append_2 : yJ5_append_2.name ≠ "<init>" ∧ (parseMethodDescriptor yJ5_append_2.desc).map (fun d => d.parameters.length) = some 1 := by decide +kernel
theorem huJ5_append_2 : RJ5 ≠ "java/lang/invoke/MethodHandle" ∧ RJ5 ≠ "java/lang/invoke/VarHandle" ∧ (parseMethodDescriptor yJ5_append_2.desc).map (fun d => d.parameters.length) = some 1 := by decide +kernel
set_option maxHeartbeats 4000000 in
theorem mtJ5_append_2 {Γ : gT} {l : Launch} {mc ms : Nat} {o : Nat} {cd : Int32} {ml : Int32} {n : Int32} {va : Nat} {cp : Nat} {f : Nat → Int32} {sa : Nat} {sv : Nat} {sn : Nat} {sf : Nat → Int32} {K : (Int32) → (Nat) → (Nat) → (Nat → Int32) → Prop}  (hw : wpJ5_append_2 mc ms K  o cd ml n va cp f sa sv sn sf) : cR Γ l yJ5_append_2 (ws_ yJ5_append_2 cJ5_append_2 3 (some (.object "java/lang/AbstractStringBuilder"))) (rmJ5_append_2 mc ms) (eA (eR sa sv sn sf) (eN Γ)) [.ref o, .ref sa] [[(o, .inr (15, [.ref va, .int cd, .int ml, .int n]))], [(va, .inl (Γ.2.1 3, cp, .inl f))]] (fun u : (Int32) × (Nat) × (Nat) × (Nat → Int32) => [[(o, .inr (15, [.ref u.2.1, .int cd, .int ml, .int u.1]))], [(u.2.1, .inl (Γ.2.1 3, u.2.2.1, .inl u.2.2.2))]]) (fun r u => r = some o ∧ K u.1 u.2.1 u.2.2.1 u.2.2.2) := by
  refine cR_of (by decide +kernel) (Nat.le_of_ble_eq_true rfl) ?_
  intro p e s m args below meth c ls A Q hQ X hr hlk hnm hE Y hl
  have hx := X.1
  have hb := X.2.1
  have hl : lv_has ls 3 [(0, .ref o), (1, .ref sa)] := hl
  unfold wpJ5_append_2 at hw
  obtain ⟨H, hH⟩ : ∃ H : Heap, H = s.heap := ⟨_, rfl⟩
  obtain ⟨locs, hlo⟩ : ∃ locs : List Loc, locs = [] := ⟨_, rfl⟩
  rw [← hH, ← hlo] at Y
  rw [← hH, ← hlo]
  have hk : 0 ≤ mc ∧ 0 ≤ ms := ⟨Nat.zero_le _, Nat.zero_le _⟩
  refine lv_aload_n hx hb dJ5_append_2_0 rfl (lv_at hl 1 rfl) ?_
  refine lv_ifnonnull (tgt := 9) hx hb dJ5_append_2_1 (by decide) ?_
  refine lv_aload_n hx hb dJ5_append_2_9 rfl (lv_at hl 1 rfl) ?_
  refine cv_VI X Y [] [0, 1] rfl rfl rfl (eA_bl eR_bl eN_bl) (fun U hU hW => ⟨((eR_tr.at X hE.1 Y [] [0, 1] rfl rfl) U hU hW), ((eN_tr.at X hE.2 Y [] [0, 1] rfl rfl) U hU hW)⟩) (mtJ7_length (Γ := Γ) (l := l) hw) (lw_V q808 q519 q520 q141 q521) ⟨rfl, hdJ7_length⟩ ⟨Nat.le_of_ble_eq_true rfl, Nat.le_of_ble_eq_true rfl⟩ (ro_recv Y hE.1) rfl hl.1 rfl (Nat.le_of_ble_eq_true rfl) dJ5_append_2_10 hk (fun r1 u H locs hw Y => ?_)
  have Y : Wo Γ A s H locs [[(o, .inr (15, [.ref va, .int cd, .int ml, .int n]))], [(va, .inl (Γ.2.1 3, cp, .inl f))]] := Y
  refine lv_istore_n (lv' := [(2, .int r1), (0, .ref o), (1, .ref sa)]) hx hb dJ5_append_2_13 rfl hl (by decide) rfl (fun ls hl => ?_)
  refine lv_aload_n hx hb dJ5_append_2_14 rfl (lv_at hl 1 rfl) ?_
  refine lv_aload_n hx hb dJ5_append_2_15 rfl (lv_at hl 1 rfl) ?_
  refine ob_get X Y 0 rfl fcJ6 3 (by decide) (X.2.2.2.2.1 _ q286) rfl dJ5_append_2_16 ?_
  refine lv_iload_n hx hb dJ5_append_2_19 rfl (lv_at hl 0 rfl) ?_
  refine lv_iadd hx hb dJ5_append_2_20 ?_
  obtain ⟨mc5, ms6, hk2, hw⟩ := hw
  refine cv_KV X Y [0, 1] [] rfl rfl rfl eN_bl (fun U hU hW => ((eN_tr.at X hE.2 Y [0, 1] [] rfl rfl) U hU hW)) (mtJ5_ensureCapacityInternal (Γ := Γ) (l := l) (mc := mc5) (ms := ms6) hw) (eN_sp hE.2 3 rfl) q743 q3733 q745 q139 q746 huJ5_ensureCapacityInternal ⟨Nat.le_of_ble_eq_true rfl, Nat.le_of_ble_eq_true rfl⟩ (ob_cell X Y (b := 0) rfl List.mem_cons_self fcJ6) rfl hl.1 rfl (Nat.le_of_ble_eq_true rfl) dJ5_append_2_21 hk2 (fun  u H locs hw Y => ?_)
  obtain ⟨q2, q3, z4⟩ := u
  have hk : 0 + mc5 ≤ mc ∧ 0 + ms6 ≤ ms := hk2
  have Y : Wo Γ A s H locs [[(o, .inr (15, [.ref q2, .int cd, .int ml, .int n]))], [(q2, .inl (Γ.2.1 3, q3, .inl z4))]] := Y
  refine lv_aload_n hx hb dJ5_append_2_24 rfl (lv_at hl 1 rfl) ?_
  refine lv_aload_n hx hb dJ5_append_2_25 rfl (lv_at hl 1 rfl) ?_
  refine ob_get X Y 0 rfl fcJ6 3 (by decide) (X.2.2.2.2.1 _ q286) rfl dJ5_append_2_26 ?_
  refine lv_aload_n hx hb dJ5_append_2_29 rfl (lv_at hl 2 rfl) ?_
  refine cv_KV X Y [0, 1] [] rfl rfl rfl (eA_bl eR_bl eN_bl) (fun U hU hW => ⟨((eR_tr.at X hE.1 Y [0, 1] [] rfl rfl) U hU hW), ((eN_tr.at X hE.2 Y [0, 1] [] rfl rfl) U hU hW)⟩) (mtJ5_putStringAt (Γ := Γ) (l := l) hw) (eN_sp hE.2 8 rfl) q809 q3737 q811 q139 q812 huJ5_putStringAt ⟨Nat.le_of_ble_eq_true rfl, Nat.le_of_ble_eq_true rfl⟩ (ob_cell X Y (b := 0) rfl List.mem_cons_self fcJ6) rfl hl.1 rfl (Nat.le_of_ble_eq_true rfl) dJ5_append_2_30 hk (fun  u H locs hw Y => ?_)
  obtain ⟨z7, rfl⟩ : ∃ z, z = u := ⟨_, rfl⟩
  have Y : Wo Γ A s H locs [[(o, .inr (15, [.ref q2, .int cd, .int ml, .int n]))], [(q2, .inl (Γ.2.1 3, q3, .inl z7))]] := Y
  refine lv_aload_n hx hb dJ5_append_2_33 rfl (lv_at hl 1 rfl) ?_
  refine lv_dup hx hb dJ5_append_2_34 rfl ?_
  refine ob_get X Y 0 rfl fcJ6 3 (by decide) (X.2.2.2.2.1 _ q286) rfl dJ5_append_2_35 ?_
  refine lv_iload_n hx hb dJ5_append_2_38 rfl (lv_at hl 0 rfl) ?_
  refine lv_iadd hx hb dJ5_append_2_39 ?_
  refine ob_put X Y 0 rfl fcJ6 3 (by decide) (X.2.2.2.2.1 _ q286) rfl rfl rfl (Nat.le_of_ble_eq_true rfl) dJ5_append_2_40 (fun H locs Y => ?_)
  have Y : Wo Γ A s H locs [[(o, .inr (15, [.ref q2, .int cd, .int ml, .int (n + r1)]))], [(q2, .inl (Γ.2.1 3, q3, .inl z7))]] := Y
  refine lv_aload_n hx hb dJ5_append_2_43 rfl (lv_at hl 1 rfl) ?_
  subst hQ
  exact re_r (r := some o) X Y hr (by first | exact Or.inl ⟨_, rfl⟩ | exact Or.inr ⟨_, rfl⟩) hlk (n + r1, q2, q3, z7) rfl ⟨rfl, hw⟩ (hk.1) (hk.2) dJ5_append_2_44
def wpJ6_append_2 (mc ms : Nat) (K : (Int32) → (Nat) → (Nat) → (Nat → Int32) → Prop)  (o : Nat) (cd : Int32) (ml : Int32) (n : Int32) (va : Nat) (cp : Nat) (f : Nat → Int32) (sa : Nat) (sv : Nat) (sn : Nat) (sf : Nat → Int32) : Prop := ∃ mc5 ms6 : Nat, (0 + mc5 ≤ mc ∧ 0 + ms6 ≤ ms) ∧ wpJ5_append_2 mc5 ms6 (fun z1 q2 q3 z4 => (K z1 q2 q3 z4))  o cd ml n va cp f sa sv sn sf
abbrev rmJ6_append_2 (mc ms : Nat) : Room := { frames := 5, cells := mc, slots := ms, locals := 127 }
theorem hdJ6_append_2 : yJ6_append_2.cls ≠ "java/lang/invoke/MethodHandle" ∧ yJ6_append_2.cls ≠ "java/lang/invoke/VarHandle" ∧ (parseMethodDescriptor yJ6_append_2.desc).map (fun d => d.parameters.length) = some 1 := by decide +kernel
theorem hpJ6_append_2 : yJ6_append_2.name ≠ "<init>" ∧ (parseMethodDescriptor yJ6_append_2.desc).map (fun d => d.parameters.length) = some 1 := by decide +kernel
theorem huJ6_append_2 : RJ6 ≠ "java/lang/invoke/MethodHandle" ∧ RJ6 ≠ "java/lang/invoke/VarHandle" ∧ (parseMethodDescriptor yJ6_append_2.desc).map (fun d => d.parameters.length) = some 1 := by decide +kernel
set_option maxHeartbeats 4000000 in
theorem mtJ6_append_2 {Γ : gT} {l : Launch} {mc ms : Nat} {o : Nat} {cd : Int32} {ml : Int32} {n : Int32} {va : Nat} {cp : Nat} {f : Nat → Int32} {sa : Nat} {sv : Nat} {sn : Nat} {sf : Nat → Int32} {K : (Int32) → (Nat) → (Nat) → (Nat → Int32) → Prop}  (hw : wpJ6_append_2 mc ms K  o cd ml n va cp f sa sv sn sf) : cR Γ l yJ6_append_2 (ws_ yJ6_append_2 cJ6_append_2 2 (some (.object "java/lang/StringBuilder"))) (rmJ6_append_2 mc ms) (eA (eR sa sv sn sf) (eN Γ)) [.ref o, .ref sa] [[(o, .inr (15, [.ref va, .int cd, .int ml, .int n]))], [(va, .inl (Γ.2.1 3, cp, .inl f))]] (fun u : (Int32) × (Nat) × (Nat) × (Nat → Int32) => [[(o, .inr (15, [.ref u.2.1, .int cd, .int ml, .int u.1]))], [(u.2.1, .inl (Γ.2.1 3, u.2.2.1, .inl u.2.2.2))]]) (fun r u => r = some o ∧ K u.1 u.2.1 u.2.2.1 u.2.2.2) := by
  refine cR_of (by decide +kernel) (Nat.le_of_ble_eq_true rfl) ?_
  intro p e s m args below meth c ls A Q hQ X hr hlk hnm hE Y hl
  have hx := X.1
  have hb := X.2.1
  have hl : lv_has ls 2 [(0, .ref o), (1, .ref sa)] := hl
  unfold wpJ6_append_2 at hw
  obtain ⟨H, hH⟩ : ∃ H : Heap, H = s.heap := ⟨_, rfl⟩
  obtain ⟨locs, hlo⟩ : ∃ locs : List Loc, locs = [] := ⟨_, rfl⟩
  rw [← hH, ← hlo] at Y
  rw [← hH, ← hlo]
  have hk : 0 ≤ mc ∧ 0 ≤ ms := ⟨Nat.zero_le _, Nat.zero_le _⟩
  refine lv_aload_n hx hb dJ6_append_2_0 rfl (lv_at hl 0 rfl) ?_
  refine lv_aload_n hx hb dJ6_append_2_1 rfl (lv_at hl 1 rfl) ?_
  obtain ⟨mc5, ms6, hk2, hw⟩ := hw
  refine cv_PR (ob_at X fcJ6) X Y [0, 1] [] rfl rfl rfl (eA_bl eR_bl eN_bl) (fun U hU hW => ⟨((eR_tr.at X hE.1 Y [0, 1] [] rfl rfl) U hU hW), ((eN_tr.at X hE.2 Y [0, 1] [] rfl rfl) U hU hW)⟩) (mtJ5_append_2 (Γ := Γ) (l := l) (mc := mc5) (ms := ms6) hw) (lw_P q798 q3735 q295 q799 q139 q800) hpJ5_append_2 ⟨Nat.le_of_ble_eq_true rfl, Nat.le_of_ble_eq_true rfl⟩ (ob_cell X Y (b := 0) rfl List.mem_cons_self fcJ6) rfl hl.1 rfl (Nat.le_of_ble_eq_true rfl) dJ6_append_2_2 hk2 (fun r u H locs hw Y => ?_)
  obtain ⟨z1, q2, q3, z4⟩ := u
  obtain ⟨rfl, hw⟩ := hw
  have hk : 0 + mc5 ≤ mc ∧ 0 + ms6 ≤ ms := hk2
  have Y : Wo Γ A s H locs [[(o, .inr (15, [.ref q2, .int cd, .int ml, .int z1]))], [(q2, .inl (Γ.2.1 3, q3, .inl z4))]] := Y
  refine lv_pop hx hb dJ6_append_2_5 rfl ?_
  refine lv_aload_n hx hb dJ6_append_2_6 rfl (lv_at hl 0 rfl) ?_
  subst hQ
  exact re_r (r := some o) X Y hr (by first | exact Or.inl ⟨_, rfl⟩ | exact Or.inr ⟨_, rfl⟩) hlk (z1, q2, q3, z4) rfl ⟨rfl, hw⟩ (hk.1) (hk.2) dJ6_append_2_7
def wpJ19_canEncode_2 (K : (Int32) → Prop)  (a1 : Int32) : Prop := (255 < a1 → (K 0)) ∧ (¬ 255 < a1 → (K 1))
abbrev rmJ19_canEncode_2 : Room := { frames := 0, cells := 0, slots := 0, locals := 0 }
theorem hdJ19_canEncode_2 : yJ19_canEncode_2.cls ≠ "java/lang/invoke/MethodHandle" ∧ yJ19_canEncode_2.cls ≠ "java/lang/invoke/VarHandle" ∧ (parseMethodDescriptor yJ19_canEncode_2.desc).map (fun d => d.parameters.length) = some 1 := by decide +kernel
set_option maxHeartbeats 4000000 in
theorem mtJ19_canEncode_2 {Γ : gT} {l : Launch} {a1 : Int32} {K : (Int32) → Prop}  (hw : wpJ19_canEncode_2 K  a1) : cI Γ l yJ19_canEncode_2 (ws_ yJ19_canEncode_2 cJ19_canEncode_2 1 (some .boolean)) rmJ19_canEncode_2 E0 [.int a1] [] (fun u : Unit => []) (fun r u => K r ) := by
  refine cI_of (by decide +kernel) (Nat.le_of_ble_eq_true rfl) ?_
  intro p e s m args below meth c ls A Q hQ X hr hlk hnm hE Y hl
  have hx := X.1
  have hb := X.2.1
  have hl : lv_has ls 1 [(0, .int a1)] := hl
  unfold wpJ19_canEncode_2 at hw
  obtain ⟨H, hH⟩ : ∃ H : Heap, H = s.heap := ⟨_, rfl⟩
  obtain ⟨locs, hlo⟩ : ∃ locs : List Loc, locs = [] := ⟨_, rfl⟩
  rw [← hH, ← hlo] at Y
  rw [← hH, ← hlo]
  refine lv_iload_n hx hb dJ19_canEncode_2_0 rfl (lv_at hl 0 rfl) ?_
  refine lv_sipush (v := 255) hx hb dJ19_canEncode_2_1 rfl ?_
  refine lv_icmp_gt (tgt := 11) hx hb dJ19_canEncode_2_4 (by decide) (fun hc => ?_) (fun hc => ?_)
  · have hw := hw.1 hc
    refine lv_iconst (v := 0) hx hb dJ19_canEncode_2_11 rfl ?_
    subst hQ
    exact re_i X Y hr hlk () rfl rfl hw (Nat.le_of_ble_eq_true rfl) (Nat.le_of_ble_eq_true rfl) dJ19_canEncode_2_12
  · have hw := hw.2 hc
    refine lv_iconst (v := 1) hx hb dJ19_canEncode_2_7 rfl ?_
    refine lv_goto (tgt := 12) hx hb dJ19_canEncode_2_8 (by decide) ?_
    subst hQ
    exact re_i X Y hr hlk () rfl rfl hw (Nat.le_of_ble_eq_true rfl) (Nat.le_of_ble_eq_true rfl) dJ19_canEncode_2_12
def wpJ19_canEncode (K : (Int32) → Prop)  (a1 : Int32) : Prop := (a1 < 0 → (K 0)) ∧ (¬ a1 < 0 → ((255 < a1 → (K 0)) ∧ (¬ 255 < a1 → (K 1))))
abbrev rmJ19_canEncode : Room := { frames := 0, cells := 0, slots := 0, locals := 0 }
theorem hdJ19_canEncode : yJ19_canEncode.cls ≠ "java/lang/invoke/MethodHandle" ∧ yJ19_canEncode.cls ≠ "java/lang/invoke/VarHandle" ∧ (parseMethodDescriptor yJ19_canEncode.desc).map (fun d => d.parameters.length) = some 1 := by decide +kernel
set_option maxHeartbeats 4000000 in
theorem mtJ19_canEncode {Γ : gT} {l : Launch} {a1 : Int32} {K : (Int32) → Prop}  (hw : wpJ19_canEncode K  a1) : cI Γ l yJ19_canEncode (ws_ yJ19_canEncode cJ19_canEncode 1 (some .boolean)) rmJ19_canEncode E0 [.int a1] [] (fun u : Unit => []) (fun r u => K r ) := by
  refine cI_of (by decide +kernel) (Nat.le_of_ble_eq_true rfl) ?_
  intro p e s m args below meth c ls A Q hQ X hr hlk hnm hE Y hl
  have hx := X.1
  have hb := X.2.1
  have hl : lv_has ls 1 [(0, .int a1)] := hl
  unfold wpJ19_canEncode at hw
  obtain ⟨H, hH⟩ : ∃ H : Heap, H = s.heap := ⟨_, rfl⟩
  obtain ⟨locs, hlo⟩ : ∃ locs : List Loc, locs = [] := ⟨_, rfl⟩
  rw [← hH, ← hlo] at Y
  rw [← hH, ← hlo]
  refine lv_iload_n hx hb dJ19_canEncode_0 rfl (lv_at hl 0 rfl) ?_
  refine lv_if_lt (tgt := 15) hx hb dJ19_canEncode_1 (by decide) (fun hc => ?_) (fun hc => ?_)
  · have hw := hw.1 hc
    refine lv_iconst (v := 0) hx hb dJ19_canEncode_15 rfl ?_
    subst hQ
    exact re_i X Y hr hlk () rfl rfl hw (Nat.le_of_ble_eq_true rfl) (Nat.le_of_ble_eq_true rfl) dJ19_canEncode_16
  · have hw := hw.2 hc
    refine lv_iload_n hx hb dJ19_canEncode_4 rfl (lv_at hl 0 rfl) ?_
    refine lv_sipush (v := 255) hx hb dJ19_canEncode_5 rfl ?_
    refine lv_icmp_gt (tgt := 15) hx hb dJ19_canEncode_8 (by decide) (fun hc => ?_) (fun hc => ?_)
    · have hw := hw.1 hc
      refine lv_iconst (v := 0) hx hb dJ19_canEncode_15 rfl ?_
      subst hQ
      exact re_i X Y hr hlk () rfl rfl hw (Nat.le_of_ble_eq_true rfl) (Nat.le_of_ble_eq_true rfl) dJ19_canEncode_16
    · have hw := hw.2 hc
      refine lv_iconst (v := 1) hx hb dJ19_canEncode_11 rfl ?_
      refine lv_goto (tgt := 16) hx hb dJ19_canEncode_12 (by decide) ?_
      subst hQ
      exact re_i X Y hr hlk () rfl rfl hw (Nat.le_of_ble_eq_true rfl) (Nat.le_of_ble_eq_true rfl) dJ19_canEncode_16
def wpJ5_init (mc ms : Nat) (K : (Nat) → (Nat) → (Nat → Int32) → Prop)  (o : Nat) (a1 : Int32) : Prop := ((1 : Int32) = 0 → (False)) ∧ (¬ (1 : Int32) = 0 → (¬ a1 < 0 ∧ ∀ m2 : Nat, a1.toNatClampNeg = m2 → (m2 ≤ 65536 ∧ (0 + 1 ≤ mc ∧ 0 + m2 ≤ ms) ∧ ∀ q1 : Nat, (K q1 m2 (fun _ => 0)))))
abbrev rmJ5_init (mc ms : Nat) : Room := { frames := 1, cells := mc, slots := ms, locals := 20 }
theorem hdJ5_init : yJ5_init.cls ≠ "java/lang/invoke/MethodHandle" ∧ yJ5_init.cls ≠ "java/lang/invoke/VarHandle" ∧ (parseMethodDescriptor yJ5_init.desc).map (fun d => d.parameters.length) = some 1 := by decide +kernel
set_option maxHeartbeats 4000000 in
theorem mtJ5_init {Γ : gT} {l : Launch} {mc ms : Nat} {o : Nat} {a1 : Int32} {K : (Nat) → (Nat) → (Nat → Int32) → Prop}  (hw : wpJ5_init mc ms K  o a1) : cV Γ l yJ5_init (ws_ yJ5_init cJ5_init 2 none) (rmJ5_init mc ms) (eN Γ) [.ref o, .int a1] [[(o, .inr (15, [.null, .int 0, .int 0, .int 0]))]] (fun u : (Nat) × (Nat) × (Nat → Int32) => [[(o, .inr (15, [.ref u.1, .int 0, .int 0, .int 0]))], [(u.1, .inl (Γ.2.1 3, u.2.1, .inl u.2.2))]]) (fun u => K u.1 u.2.1 u.2.2) := by
  refine cV_of (by decide +kernel) (Nat.le_of_ble_eq_true rfl) ?_
  intro p e s m args below meth c ls A Q hQ X hr hlk hnm hE Y hl
  have hx := X.1
  have hb := X.2.1
  have hl : lv_has ls 2 [(0, .ref o), (1, .int a1)] := hl
  unfold wpJ5_init at hw
  obtain ⟨H, hH⟩ : ∃ H : Heap, H = s.heap := ⟨_, rfl⟩
  obtain ⟨locs, hlo⟩ : ∃ locs : List Loc, locs = [] := ⟨_, rfl⟩
  rw [← hH, ← hlo] at Y
  rw [← hH, ← hlo]
  have hk : 0 ≤ mc ∧ 0 ≤ ms := ⟨Nat.zero_le _, Nat.zero_le _⟩
  refine lv_aload_n hx hb dJ5_init_0 rfl (lv_at hl 0 rfl) ?_
  refine W.objInit hx hb X.2.2.2.1 (X.2.2.2.2.1 _ q272) (X.2.2.2.2.1 _ q195) (X.2.2.2.2.1 _ q196) rfl (by rw [X.2.2.1]; exact hl.1) rfl dJ5_init_1 (Nat.le_of_ble_eq_true rfl) (Nat.le_of_ble_eq_true rfl) ?_
  refine W.eq (g2 := F0 m 4 ls []) rfl ?_
  refine st_getI X Y hE 0 rfl (X.2.2.2.2.1 _ q273) dJ5_init_4 ?_
  refine lv_if_eq (tgt := 25) hx hb dJ5_init_7 (by decide) (fun hc => ?_) (fun hc => ?_)
  · have hw := hw.1 hc
    refine lv_aload_n hx hb dJ5_init_25 rfl (lv_at hl 0 rfl) ?_
    refine lv_iload_n hx hb dJ5_init_26 rfl (lv_at hl 1 rfl) ?_
    exact hw.elim
  · have hw := hw.2 hc
    refine lv_aload_n hx hb dJ5_init_10 rfl (lv_at hl 0 rfl) ?_
    refine lv_iload_n hx hb dJ5_init_11 rfl (lv_at hl 1 rfl) ?_
    obtain ⟨hn0, hw⟩ := hw
    obtain ⟨m2, hN⟩ : ∃ z : Nat, a1.toNatClampNeg = z := ⟨_, rfl⟩
    obtain ⟨hn1, hk, hw⟩ := hw m2 hN
    refine ar_new3 X Y hn0 hN hn1 hk.1 hk.2 dJ5_init_12 (fun q1 H Y => ?_)
    have Y : Wo Γ A s H locs [[(o, .inr (15, [.null, .int 0, .int 0, .int 0]))], [(q1, .inl (Γ.2.1 3, m2, .inl (fun _ => 0)))]] := Y
    have hw := hw q1
    refine ob_put X Y 0 rfl fcJ6 0 (by decide) (X.2.2.2.2.1 _ q282) rfl (by first | rfl | exact op_nar _ | exact op_narA _) (by first | rfl | exact op_fit _ | exact op_fitA _) (Nat.le_of_ble_eq_true rfl) dJ5_init_14 (fun H locs Y => ?_)
    have Y : Wo Γ A s H locs [[(o, .inr (15, [.ref q1, .int 0, .int 0, .int 0]))], [(q1, .inl (Γ.2.1 3, m2, .inl (fun _ => 0)))]] := Y
    refine lv_aload_n hx hb dJ5_init_17 rfl (lv_at hl 0 rfl) ?_
    refine lv_iconst (v := 0) hx hb dJ5_init_18 rfl ?_
    refine ob_put X Y 0 rfl fcJ6 1 (by decide) (X.2.2.2.2.1 _ q283) rfl rfl rfl (Nat.le_of_ble_eq_true rfl) dJ5_init_19 (fun H locs Y => ?_)
    have Y : Wo Γ A s H locs [[(o, .inr (15, [.ref q1, .int 0, .int 0, .int 0]))], [(q1, .inl (Γ.2.1 3, m2, .inl (fun _ => 0)))]] := Y
    refine lv_goto (tgt := 38) hx hb dJ5_init_22 (by decide) ?_
    subst hQ
    exact re_v X Y hr hlk (q1, m2, (fun _ => 0)) rfl hw (hk.1) (hk.2) dJ5_init_38
def wpJ6_init (mc ms : Nat) (K : (Nat) → (Nat) → (Nat → Int32) → Prop)  (o : Nat) : Prop := ∃ mc4 ms5 : Nat, (0 + mc4 ≤ mc ∧ 0 + ms5 ≤ ms) ∧ wpJ5_init mc4 ms5 (fun q1 q2 z3 => (K q1 q2 z3))  o 16
abbrev rmJ6_init (mc ms : Nat) : Room := { frames := 2, cells := mc, slots := ms, locals := 41 }
theorem hdJ6_init : yJ6_init.cls ≠ "java/lang/invoke/MethodHandle" ∧ yJ6_init.cls ≠ "java/lang/invoke/VarHandle" ∧ (parseMethodDescriptor yJ6_init.desc).map (fun d => d.parameters.length) = some 0 := by decide +kernel
set_option maxHeartbeats 4000000 in
theorem mtJ6_init {Γ : gT} {l : Launch} {mc ms : Nat} {o : Nat} {K : (Nat) → (Nat) → (Nat → Int32) → Prop}  (hw : wpJ6_init mc ms K  o) : cV Γ l yJ6_init (ws_ yJ6_init cJ6_init 1 none) (rmJ6_init mc ms) (eN Γ) [.ref o] [[(o, .inr (15, [.null, .int 0, .int 0, .int 0]))]] (fun u : (Nat) × (Nat) × (Nat → Int32) => [[(o, .inr (15, [.ref u.1, .int 0, .int 0, .int 0]))], [(u.1, .inl (Γ.2.1 3, u.2.1, .inl u.2.2))]]) (fun u => K u.1 u.2.1 u.2.2) := by
  refine cV_of (by decide +kernel) (Nat.le_of_ble_eq_true rfl) ?_
  intro p e s m args below meth c ls A Q hQ X hr hlk hnm hE Y hl
  have hx := X.1
  have hb := X.2.1
  have hl : lv_has ls 1 [(0, .ref o)] := hl
  unfold wpJ6_init at hw
  obtain ⟨H, hH⟩ : ∃ H : Heap, H = s.heap := ⟨_, rfl⟩
  obtain ⟨locs, hlo⟩ : ∃ locs : List Loc, locs = [] := ⟨_, rfl⟩
  rw [← hH, ← hlo] at Y
  rw [← hH, ← hlo]
  have hk : 0 ≤ mc ∧ 0 ≤ ms := ⟨Nat.zero_le _, Nat.zero_le _⟩
  refine lv_aload_n hx hb dJ6_init_0 rfl (lv_at hl 0 rfl) ?_
  refine lv_bipush (v := 16) hx hb dJ6_init_1 rfl ?_
  obtain ⟨mc4, ms5, hk2, hw⟩ := hw
  refine cl_IV X Y [0] [] rfl rfl rfl eN_bl (fun U hU hW => ((eN_tr.at X hE Y [0] [] rfl rfl) U hU hW)) (mtJ5_init (Γ := Γ) (l := l) (mc := mc4) (ms := ms5) hw) (lw_meth q271) (X.2.2.2.2.1 _ q139) (X.2.2.2.2.1 _ q269) (X.2.2.2.2.1 _ q270) rfl hdJ5_init ⟨Nat.le_of_ble_eq_true rfl, Nat.le_of_ble_eq_true rfl⟩ rfl hl.1 rfl (Nat.le_of_ble_eq_true rfl) dJ6_init_3 hk2 (fun  u H locs hw Y => ?_)
  obtain ⟨q1, q2, z3⟩ := u
  have hk : 0 + mc4 ≤ mc ∧ 0 + ms5 ≤ ms := hk2
  have Y : Wo Γ A s H locs [[(o, .inr (15, [.ref q1, .int 0, .int 0, .int 0]))], [(q1, .inl (Γ.2.1 3, q2, .inl z3))]] := Y
  subst hQ
  exact re_v X Y hr hlk (q1, q2, z3) rfl hw (hk.1) (hk.2) dJ6_init_6
def wpJ5_getValue (K : Prop)  (o : Nat) (cd : Int32) (ml : Int32) (n : Int32) (va : Nat) (cp : Nat) (f : Nat → Int32) : Prop := K
abbrev rmJ5_getValue : Room := { frames := 0, cells := 0, slots := 0, locals := 0 }
theorem hdJ5_getValue : yJ5_getValue.cls ≠ "java/lang/invoke/MethodHandle" ∧ yJ5_getValue.cls ≠ "java/lang/invoke/VarHandle" ∧ (parseMethodDescriptor yJ5_getValue.desc).map (fun d => d.parameters.length) = some 0 := by decide +kernel
theorem hpJ5_getValue : yJ5_getValue.name ≠ "<init>" ∧ (parseMethodDescriptor yJ5_getValue.desc).map (fun d => d.parameters.length) = some 0 := by decide +kernel
theorem huJ5_getValue : RJ5 ≠ "java/lang/invoke/MethodHandle" ∧ RJ5 ≠ "java/lang/invoke/VarHandle" ∧ (parseMethodDescriptor yJ5_getValue.desc).map (fun d => d.parameters.length) = some 0 := by decide +kernel
set_option maxHeartbeats 4000000 in
theorem mtJ5_getValue {Γ : gT} {l : Launch} {o : Nat} {cd : Int32} {ml : Int32} {n : Int32} {va : Nat} {cp : Nat} {f : Nat → Int32} {K : Prop}  (hw : wpJ5_getValue K  o cd ml n va cp f) : cR Γ l yJ5_getValue (ws_ yJ5_getValue cJ5_getValue 1 (some (.array .byte))) rmJ5_getValue E0 [.ref o] [[(o, .inr (15, [.ref va, .int cd, .int ml, .int n]))], [(va, .inl (Γ.2.1 3, cp, .inl f))]] (fun u : Unit => [[(o, .inr (15, [.ref va, .int cd, .int ml, .int n]))], [(va, .inl (Γ.2.1 3, cp, .inl f))]]) (fun r u => r = some va ∧ K ) := by
  refine cR_of (by decide +kernel) (Nat.le_of_ble_eq_true rfl) ?_
  intro p e s m args below meth c ls A Q hQ X hr hlk hnm hE Y hl
  have hx := X.1
  have hb := X.2.1
  have hl : lv_has ls 1 [(0, .ref o)] := hl
  unfold wpJ5_getValue at hw
  obtain ⟨H, hH⟩ : ∃ H : Heap, H = s.heap := ⟨_, rfl⟩
  obtain ⟨locs, hlo⟩ : ∃ locs : List Loc, locs = [] := ⟨_, rfl⟩
  rw [← hH, ← hlo] at Y
  rw [← hH, ← hlo]
  refine lv_aload_n hx hb dJ5_getValue_0 rfl (lv_at hl 0 rfl) ?_
  refine ob_get X Y 0 rfl fcJ6 0 (by decide) (X.2.2.2.2.1 _ q282) rfl dJ5_getValue_1 ?_
  subst hQ
  exact re_r (r := some va) X Y hr (by first | exact Or.inl ⟨_, rfl⟩ | exact Or.inr ⟨_, rfl⟩) hlk () rfl ⟨rfl, hw⟩ (Nat.le_of_ble_eq_true rfl) (Nat.le_of_ble_eq_true rfl) dJ5_getValue_4
def wpJ27_checkLength (K : Prop)  (a1 : Int32) (a2 : Int32) : Prop := (a1 ≤ a2 → (K)) ∧ (¬ a1 ≤ a2 → (False))
abbrev rmJ27_checkLength : Room := { frames := 0, cells := 0, slots := 0, locals := 0 }
theorem hdJ27_checkLength : yJ27_checkLength.cls ≠ "java/lang/invoke/MethodHandle" ∧ yJ27_checkLength.cls ≠ "java/lang/invoke/VarHandle" ∧ (parseMethodDescriptor yJ27_checkLength.desc).map (fun d => d.parameters.length) = some 2 := by decide +kernel
set_option maxHeartbeats 4000000 in
theorem mtJ27_checkLength {Γ : gT} {l : Launch} {a1 : Int32} {a2 : Int32} {K : Prop}  (hw : wpJ27_checkLength K  a1 a2) : cV Γ l yJ27_checkLength (ws_ yJ27_checkLength cJ27_checkLength 2 none) rmJ27_checkLength E0 [.int a1, .int a2] [] (fun u : Unit => []) (fun _ => K) := by
  refine cV_of (by decide +kernel) (Nat.le_of_ble_eq_true rfl) ?_
  intro p e s m args below meth c ls A Q hQ X hr hlk hnm hE Y hl
  have hx := X.1
  have hb := X.2.1
  have hl : lv_has ls 2 [(0, .int a1), (1, .int a2)] := hl
  unfold wpJ27_checkLength at hw
  obtain ⟨H, hH⟩ : ∃ H : Heap, H = s.heap := ⟨_, rfl⟩
  obtain ⟨locs, hlo⟩ : ∃ locs : List Loc, locs = [] := ⟨_, rfl⟩
  rw [← hH, ← hlo] at Y
  rw [← hH, ← hlo]
  refine lv_iload_n hx hb dJ27_checkLength_0 rfl (lv_at hl 1 rfl) ?_
  refine lv_iload_n hx hb dJ27_checkLength_1 rfl (lv_at hl 0 rfl) ?_
  refine lv_icmp_ge (tgt := 37) hx hb dJ27_checkLength_2 (by decide) (fun hc => ?_) (fun hc => ?_)
  · have hw := hw.1 hc
    subst hQ
    exact re_v X Y hr hlk () rfl hw (Nat.le_of_ble_eq_true rfl) (Nat.le_of_ble_eq_true rfl) dJ27_checkLength_37
  · have hw := hw.2 hc
    exact hw.elim
def wpJ27_copyOfRangeByte (mc ms : Nat) (K : (Nat) → (Nat) → (Nat → Int32) → Prop)  (va : Nat) (cp : Nat) (f : Nat → Int32) (a1 : Int32) (a2 : Int32) : Prop := wpJ27_checkLength (¬ (a2 - a1) < 0 ∧ ∀ m2 : Nat, (a2 - a1).toNatClampNeg = m2 → (m2 ≤ 65536 ∧ (0 + 1 ≤ mc ∧ 0 + m2 ≤ ms) ∧ ∀ q1 : Nat, ((¬ a1 < 0 ∧ ¬ (0 : Int32) < 0 ∧ ¬ (if (a2 - a1) < ((nI cp) - a1) then (a2 - a1) else ((nI cp) - a1)) < 0 ∧ a1.toNatClampNeg + (if (a2 - a1) < ((nI cp) - a1) then (a2 - a1) else ((nI cp) - a1)).toNatClampNeg ≤ cp ∧ (0 : Int32).toNatClampNeg + (if (a2 - a1) < ((nI cp) - a1) then (a2 - a1) else ((nI cp) - a1)).toNatClampNeg ≤ m2 ∧ (∀ i : Nat, i < (if (a2 - a1) < ((nI cp) - a1) then (a2 - a1) else ((nI cp) - a1)).toNatClampNeg → fits .byte (.int (f (a1.toNatClampNeg + i))) = true)) ∧ (K q1 m2 (va_cpy f (fun _ => 0) a1.toNatClampNeg (0 : Int32).toNatClampNeg (if (a2 - a1) < ((nI cp) - a1) then (a2 - a1) else ((nI cp) - a1)).toNatClampNeg)))))  a1 a2
abbrev rmJ27_copyOfRangeByte (mc ms : Nat) : Room := { frames := 1, cells := mc, slots := ms, locals := 60 }
theorem hdJ27_copyOfRangeByte : yJ27_copyOfRangeByte.cls ≠ "java/lang/invoke/MethodHandle" ∧ yJ27_copyOfRangeByte.cls ≠ "java/lang/invoke/VarHandle" ∧ (parseMethodDescriptor yJ27_copyOfRangeByte.desc).map (fun d => d.parameters.length) = some 3 := by decide +kernel
set_option maxHeartbeats 4000000 in
theorem mtJ27_copyOfRangeByte {Γ : gT} {l : Launch} {mc ms : Nat} {va : Nat} {cp : Nat} {f : Nat → Int32} {a1 : Int32} {a2 : Int32} {K : (Nat) → (Nat) → (Nat → Int32) → Prop}  (hw : wpJ27_copyOfRangeByte mc ms K  va cp f a1 a2) : cR Γ l yJ27_copyOfRangeByte (ws_ yJ27_copyOfRangeByte cJ27_copyOfRangeByte 5 (some (.array .byte))) (rmJ27_copyOfRangeByte mc ms) E0 [.ref va, .int a1, .int a2] [[(va, .inl (Γ.2.1 3, cp, .inl f))]] (fun u : (Nat) × (Nat) × (Nat → Int32) => [[(va, .inl (Γ.2.1 3, cp, .inl f))], [(u.1, .inl (Γ.2.1 3, u.2.1, .inl u.2.2))]]) (fun r u => r = some u.1 ∧ K u.1 u.2.1 u.2.2) := by
  refine cR_of (by decide +kernel) (Nat.le_of_ble_eq_true rfl) ?_
  intro p e s m args below meth c ls A Q hQ X hr hlk hnm hE Y hl
  have hx := X.1
  have hb := X.2.1
  have hl : lv_has ls 5 [(0, .ref va), (1, .int a1), (2, .int a2)] := hl
  unfold wpJ27_copyOfRangeByte at hw
  obtain ⟨H, hH⟩ : ∃ H : Heap, H = s.heap := ⟨_, rfl⟩
  obtain ⟨locs, hlo⟩ : ∃ locs : List Loc, locs = [] := ⟨_, rfl⟩
  rw [← hH, ← hlo] at Y
  rw [← hH, ← hlo]
  have hk : 0 ≤ mc ∧ 0 ≤ ms := ⟨Nat.zero_le _, Nat.zero_le _⟩
  refine lv_iload_n hx hb dJ27_copyOfRangeByte_0 rfl (lv_at hl 1 rfl) ?_
  refine lv_iload_n hx hb dJ27_copyOfRangeByte_1 rfl (lv_at hl 2 rfl) ?_
  refine cl_SV X Y [] [0] rfl rfl rfl E0_bl (fun _ _ _ => trivial) (mtJ27_checkLength (Γ := Γ) (l := l) hw) (lw_S q680 q681 q167 q682) hdJ27_checkLength ⟨Nat.le_of_ble_eq_true rfl, Nat.le_of_ble_eq_true rfl⟩ rfl hl.1 rfl (Nat.le_of_ble_eq_true rfl) dJ27_copyOfRangeByte_2 hk (fun  u H locs hw Y => ?_)
  have Y : Wo Γ A s H locs [[(va, .inl (Γ.2.1 3, cp, .inl f))]] := Y
  refine lv_iload_n hx hb dJ27_copyOfRangeByte_5 rfl (lv_at hl 2 rfl) ?_
  refine lv_iload_n hx hb dJ27_copyOfRangeByte_6 rfl (lv_at hl 1 rfl) ?_
  refine lv_isub hx hb dJ27_copyOfRangeByte_7 ?_
  refine lv_istore_n (lv' := [(3, .int (a2 - a1)), (0, .ref va), (1, .int a1), (2, .int a2)]) hx hb dJ27_copyOfRangeByte_8 rfl hl (by decide) rfl (fun ls hl => ?_)
  refine lv_iload_n hx hb dJ27_copyOfRangeByte_9 rfl (lv_at hl 0 rfl) ?_
  obtain ⟨hn0, hw⟩ := hw
  obtain ⟨m2, hN⟩ : ∃ z : Nat, (a2 - a1).toNatClampNeg = z := ⟨_, rfl⟩
  obtain ⟨hn1, hk, hw⟩ := hw m2 hN
  refine ar_new3 X Y hn0 hN hn1 hk.1 hk.2 dJ27_copyOfRangeByte_10 (fun q1 H Y => ?_)
  have Y : Wo Γ A s H locs [[(va, .inl (Γ.2.1 3, cp, .inl f))], [(q1, .inl (Γ.2.1 3, m2, .inl (fun _ => 0)))]] := Y
  have hw := hw q1
  refine lv_astore (lv' := [(4, .ref q1), (3, .int (a2 - a1)), (0, .ref va), (1, .int a1), (2, .int a2)]) hx hb dJ27_copyOfRangeByte_12 hl (by decide) rfl (fun ls hl => ?_)
  refine lv_aload_n hx hb dJ27_copyOfRangeByte_14 rfl (lv_at hl 2 rfl) ?_
  refine lv_iload_n hx hb dJ27_copyOfRangeByte_15 rfl (lv_at hl 3 rfl) ?_
  refine lv_aload hx hb dJ27_copyOfRangeByte_16 (lv_at hl 0 rfl) ?_
  refine lv_iconst (v := 0) hx hb dJ27_copyOfRangeByte_18 rfl ?_
  refine lv_aload_n hx hb dJ27_copyOfRangeByte_19 rfl (lv_at hl 2 rfl) ?_
  refine ar_len X Y 0 rfl (t := 3) rfl dJ27_copyOfRangeByte_20 ?_
  refine lv_iload_n hx hb dJ27_copyOfRangeByte_21 rfl (lv_at hl 3 rfl) ?_
  refine lv_isub hx hb dJ27_copyOfRangeByte_22 ?_
  refine lv_iload_n hx hb dJ27_copyOfRangeByte_23 rfl (lv_at hl 1 rfl) ?_
  refine va_mmin hx hb (X.2.2.1.trans hl.1.symm) X.2.2.2.1 (X.2.2.2.2.1 _ q770) (X.2.2.2.2.1 _ q536) (X.2.2.2.2.1 _ q159) (X.2.2.2.2.1 _ q537) (Nat.le_of_ble_eq_true rfl) (Nat.le_of_ble_eq_true rfl) hk.1 hk.2 dJ27_copyOfRangeByte_24 ?_
  obtain ⟨⟨w1, w2, w3, w4, w5, w6⟩, hw⟩ := hw
  refine za_cpy (t := 3) rfl rfl X Y (arAt_ar Y 0 (t := 3) rfl) (arAt_ar Y 1 (t := 3) rfl) q771 q773 q772 q148 hl.1 w1 w2 w3 w4 w5 w6 (Nat.le_of_ble_eq_true rfl) (Nat.le_of_ble_eq_true rfl) dJ27_copyOfRangeByte_27 (fun H locs Y => ?_)
  have Y : Wo Γ A s H locs [[(va, .inl (Γ.2.1 3, cp, .inl f))], [(q1, .inl (Γ.2.1 3, m2, .inl (va_cpy f (fun _ => 0) a1.toNatClampNeg (0 : Int32).toNatClampNeg (if (a2 - a1) < ((nI cp) - a1) then (a2 - a1) else ((nI cp) - a1)).toNatClampNeg)))]] := Y
  refine lv_aload hx hb dJ27_copyOfRangeByte_30 (lv_at hl 0 rfl) ?_
  subst hQ
  exact re_r (r := some q1) X Y hr (by first | exact Or.inl ⟨_, rfl⟩ | exact Or.inr ⟨_, rfl⟩) hlk (q1, m2, va_cpy f (fun _ => 0) a1.toNatClampNeg (0 : Int32).toNatClampNeg (if (a2 - a1) < ((nI cp) - a1) then (a2 - a1) else ((nI cp) - a1)).toNatClampNeg) rfl ⟨rfl, hw⟩ (hk.1) (hk.2) dJ27_copyOfRangeByte_32
def wpJ27_copyOfRange (mc ms : Nat) (K : (Nat) → (Nat) → (Nat → Int32) → Prop)  (va : Nat) (cp : Nat) (f : Nat → Int32) (a1 : Int32) (a2 : Int32) : Prop := ∃ J1 : Prop, (J1 → (∃ mc5 ms6 : Nat, (0 + mc5 ≤ mc ∧ 0 + ms6 ≤ ms) ∧ wpJ27_copyOfRangeByte mc5 ms6 (fun q2 q3 z4 => (K q2 q3 z4))  va cp f a1 a2)) ∧ ((a1 = 0 → ((a2 = (nI cp) → (False)) ∧ (¬ a2 = (nI cp) → (J1)))) ∧ (¬ a1 = 0 → (J1)))
abbrev rmJ27_copyOfRange (mc ms : Nat) : Room := { frames := 2, cells := mc, slots := ms, locals := 84 }
theorem hdJ27_copyOfRange : yJ27_copyOfRange.cls ≠ "java/lang/invoke/MethodHandle" ∧ yJ27_copyOfRange.cls ≠ "java/lang/invoke/VarHandle" ∧ (parseMethodDescriptor yJ27_copyOfRange.desc).map (fun d => d.parameters.length) = some 3 := by decide +kernel
set_option maxHeartbeats 4000000 in
theorem mtJ27_copyOfRange {Γ : gT} {l : Launch} {mc ms : Nat} {va : Nat} {cp : Nat} {f : Nat → Int32} {a1 : Int32} {a2 : Int32} {K : (Nat) → (Nat) → (Nat → Int32) → Prop}  (hw : wpJ27_copyOfRange mc ms K  va cp f a1 a2) : cR Γ l yJ27_copyOfRange (ws_ yJ27_copyOfRange cJ27_copyOfRange 3 (some (.array .byte))) (rmJ27_copyOfRange mc ms) E0 [.ref va, .int a1, .int a2] [[(va, .inl (Γ.2.1 3, cp, .inl f))]] (fun u : (Nat) × (Nat) × (Nat → Int32) => [[(va, .inl (Γ.2.1 3, cp, .inl f))], [(u.1, .inl (Γ.2.1 3, u.2.1, .inl u.2.2))]]) (fun r u => r = some u.1 ∧ K u.1 u.2.1 u.2.2) := by
  refine cR_of (by decide +kernel) (Nat.le_of_ble_eq_true rfl) ?_
  intro p e s m args below meth c ls A Q hQ X hr hlk hnm hE Y hl
  have hx := X.1
  have hb := X.2.1
  have hl : lv_has ls 3 [(0, .ref va), (1, .int a1), (2, .int a2)] := hl
  unfold wpJ27_copyOfRange at hw
  obtain ⟨H, hH⟩ : ∃ H : Heap, H = s.heap := ⟨_, rfl⟩
  obtain ⟨locs, hlo⟩ : ∃ locs : List Loc, locs = [] := ⟨_, rfl⟩
  rw [← hH, ← hlo] at Y
  rw [← hH, ← hlo]
  have hk : 0 ≤ mc ∧ 0 ≤ ms := ⟨Nat.zero_le _, Nat.zero_le _⟩
  refine lv_iload_n hx hb dJ27_copyOfRange_0 rfl (lv_at hl 1 rfl) ?_
  obtain ⟨J1, hwR, hw⟩ := hw
  have hJ1 : ∀ (H : Heap) (locs : List Loc) (ls : Array Slot), J1  → (0 ≤ mc ∧ 0 ≤ ms) → Wo Γ A s H locs [[(va, .inl (Γ.2.1 3, cp, .inl f))]] → lv_has ls 3 [(0, .ref va), (1, .int a1), (2, .int a2)] → W p l e (rmJ27_copyOfRange mc ms) s m args below meth c H locs 0 0 Q (F0 m 10 ls []) := by
    intro  H locs ls hw hk Y hl
    have hw := hwR  hw
    refine lv_aload_n hx hb dJ27_copyOfRange_10 rfl (lv_at hl 0 rfl) ?_
    refine lv_iload_n hx hb dJ27_copyOfRange_11 rfl (lv_at hl 1 rfl) ?_
    refine lv_iload_n hx hb dJ27_copyOfRange_12 rfl (lv_at hl 2 rfl) ?_
    obtain ⟨mc5, ms6, hk2, hw⟩ := hw
    refine cl_SR X Y [0] [] rfl rfl rfl E0_bl (fun _ _ _ => trivial) (mtJ27_copyOfRangeByte (Γ := Γ) (l := l) (mc := mc5) (ms := ms6) hw) (lw_S q677 q678 q167 q679) hdJ27_copyOfRangeByte ⟨Nat.le_of_ble_eq_true rfl, Nat.le_of_ble_eq_true rfl⟩ rfl hl.1 rfl (Nat.le_of_ble_eq_true rfl) dJ27_copyOfRange_13 hk2 (fun r u H locs hw Y => ?_)
    obtain ⟨q2, q3, z4⟩ := u
    obtain ⟨rfl, hw⟩ := hw
    have hk : 0 + mc5 ≤ mc ∧ 0 + ms6 ≤ ms := hk2
    have Y : Wo Γ A s H locs [[(va, .inl (Γ.2.1 3, cp, .inl f))], [(q2, .inl (Γ.2.1 3, q3, .inl z4))]] := Y
    subst hQ
    exact re_r (r := some q2) X Y hr (by first | exact Or.inl ⟨_, rfl⟩ | exact Or.inr ⟨_, rfl⟩) hlk (q2, q3, z4) rfl ⟨rfl, hw⟩ (hk.1) (hk.2) dJ27_copyOfRange_16
  refine lv_if_ne (tgt := 10) hx hb dJ27_copyOfRange_1 (by decide) (fun hc => ?_) (fun hc => ?_)
  · have hw := hw.2 hc
    exact hJ1  H locs ls hw hk Y (lv_sub hl [0, 1, 2] rfl)
  · have hw := hw.1 hc
    refine lv_iload_n hx hb dJ27_copyOfRange_4 rfl (lv_at hl 2 rfl) ?_
    refine lv_aload_n hx hb dJ27_copyOfRange_5 rfl (lv_at hl 0 rfl) ?_
    refine ar_len X Y 0 rfl (t := 3) rfl dJ27_copyOfRange_6 ?_
    refine lv_icmp_eq (tgt := 17) hx hb dJ27_copyOfRange_7 (by decide) (fun hc => ?_) (fun hc => ?_)
    · have hw := hw.1 hc
      refine lv_aload_n hx hb dJ27_copyOfRange_17 rfl (lv_at hl 0 rfl) ?_
      exact hw.elim
    · have hw := hw.2 hc
      exact hJ1  H locs ls hw hk Y (lv_sub hl [0, 1, 2] rfl)
def wpJ27_copyOfRangeByter (mc ms : Nat) (K : (Nat) → (Nat) → (Nat → Int32) → Prop)  (sv : Nat) (sn : Nat) (sf : Nat → Int32) (a1 : Int32) (a2 : Int32) : Prop := wpJ27_checkLength (¬ (a2 - a1) < 0 ∧ ∀ m2 : Nat, (a2 - a1).toNatClampNeg = m2 → (m2 ≤ 65536 ∧ (0 + 1 ≤ mc ∧ 0 + m2 ≤ ms) ∧ ∀ q1 : Nat, ((¬ a1 < 0 ∧ ¬ (0 : Int32) < 0 ∧ ¬ (if (a2 - a1) < ((nI sn) - a1) then (a2 - a1) else ((nI sn) - a1)) < 0 ∧ a1.toNatClampNeg + (if (a2 - a1) < ((nI sn) - a1) then (a2 - a1) else ((nI sn) - a1)).toNatClampNeg ≤ sn ∧ (0 : Int32).toNatClampNeg + (if (a2 - a1) < ((nI sn) - a1) then (a2 - a1) else ((nI sn) - a1)).toNatClampNeg ≤ m2 ∧ (∀ i : Nat, i < (if (a2 - a1) < ((nI sn) - a1) then (a2 - a1) else ((nI sn) - a1)).toNatClampNeg → fits .byte (.int (sf (a1.toNatClampNeg + i))) = true)) ∧ (K q1 m2 (va_cpy sf (fun _ => 0) a1.toNatClampNeg (0 : Int32).toNatClampNeg (if (a2 - a1) < ((nI sn) - a1) then (a2 - a1) else ((nI sn) - a1)).toNatClampNeg)))))  a1 a2
abbrev rmJ27_copyOfRangeByter (mc ms : Nat) : Room := { frames := 1, cells := mc, slots := ms, locals := 60 }
set_option maxHeartbeats 4000000 in
theorem mtJ27_copyOfRangeByter {Γ : gT} {l : Launch} {mc ms : Nat} {sv : Nat} {sn : Nat} {sf : Nat → Int32} {a1 : Int32} {a2 : Int32} {K : (Nat) → (Nat) → (Nat → Int32) → Prop}  (hw : wpJ27_copyOfRangeByter mc ms K  sv sn sf a1 a2) : cR Γ l yJ27_copyOfRangeByte (ws_ yJ27_copyOfRangeByte cJ27_copyOfRangeByte 5 (some (.array .byte))) (rmJ27_copyOfRangeByter mc ms) (eT3 sv sn sf) [.ref sv, .int a1, .int a2] [] (fun u : (Nat) × (Nat) × (Nat → Int32) => [[(u.1, .inl (Γ.2.1 3, u.2.1, .inl u.2.2))]]) (fun r u => r = some u.1 ∧ K u.1 u.2.1 u.2.2) := by
  refine cR_of (by decide +kernel) (Nat.le_of_ble_eq_true rfl) ?_
  intro p e s m args below meth c ls A Q hQ X hr hlk hnm hE Y hl
  have hx := X.1
  have hb := X.2.1
  have hl : lv_has ls 5 [(0, .ref sv), (1, .int a1), (2, .int a2)] := hl
  unfold wpJ27_copyOfRangeByter at hw
  obtain ⟨H, hH⟩ : ∃ H : Heap, H = s.heap := ⟨_, rfl⟩
  obtain ⟨locs, hlo⟩ : ∃ locs : List Loc, locs = [] := ⟨_, rfl⟩
  rw [← hH, ← hlo] at Y
  rw [← hH, ← hlo]
  have hk : 0 ≤ mc ∧ 0 ≤ ms := ⟨Nat.zero_le _, Nat.zero_le _⟩
  refine lv_iload_n hx hb dJ27_copyOfRangeByte_0 rfl (lv_at hl 1 rfl) ?_
  refine lv_iload_n hx hb dJ27_copyOfRangeByte_1 rfl (lv_at hl 2 rfl) ?_
  refine cl_SV X Y [] [] rfl rfl rfl E0_bl (fun _ _ _ => trivial) (mtJ27_checkLength (Γ := Γ) (l := l) hw) (lw_S q680 q681 q167 q682) hdJ27_checkLength ⟨Nat.le_of_ble_eq_true rfl, Nat.le_of_ble_eq_true rfl⟩ rfl hl.1 rfl (Nat.le_of_ble_eq_true rfl) dJ27_copyOfRangeByte_2 hk (fun  u H locs hw Y => ?_)
  have Y : Wo Γ A s H locs [] := Y
  refine lv_iload_n hx hb dJ27_copyOfRangeByte_5 rfl (lv_at hl 2 rfl) ?_
  refine lv_iload_n hx hb dJ27_copyOfRangeByte_6 rfl (lv_at hl 1 rfl) ?_
  refine lv_isub hx hb dJ27_copyOfRangeByte_7 ?_
  refine lv_istore_n (lv' := [(3, .int (a2 - a1)), (0, .ref sv), (1, .int a1), (2, .int a2)]) hx hb dJ27_copyOfRangeByte_8 rfl hl (by decide) rfl (fun ls hl => ?_)
  refine lv_iload_n hx hb dJ27_copyOfRangeByte_9 rfl (lv_at hl 0 rfl) ?_
  obtain ⟨hn0, hw⟩ := hw
  obtain ⟨m2, hN⟩ : ∃ z : Nat, (a2 - a1).toNatClampNeg = z := ⟨_, rfl⟩
  obtain ⟨hn1, hk, hw⟩ := hw m2 hN
  refine ar_new3 X Y hn0 hN hn1 hk.1 hk.2 dJ27_copyOfRangeByte_10 (fun q1 H Y => ?_)
  have Y : Wo Γ A s H locs [[(q1, .inl (Γ.2.1 3, m2, .inl (fun _ => 0)))]] := Y
  have hw := hw q1
  refine lv_astore (lv' := [(4, .ref q1), (3, .int (a2 - a1)), (0, .ref sv), (1, .int a1), (2, .int a2)]) hx hb dJ27_copyOfRangeByte_12 hl (by decide) rfl (fun ls hl => ?_)
  refine lv_aload_n hx hb dJ27_copyOfRangeByte_14 rfl (lv_at hl 2 rfl) ?_
  refine lv_iload_n hx hb dJ27_copyOfRangeByte_15 rfl (lv_at hl 3 rfl) ?_
  refine lv_aload hx hb dJ27_copyOfRangeByte_16 (lv_at hl 0 rfl) ?_
  refine lv_iconst (v := 0) hx hb dJ27_copyOfRangeByte_18 rfl ?_
  refine lv_aload_n hx hb dJ27_copyOfRangeByte_19 rfl (lv_at hl 2 rfl) ?_
  refine ro_len X Y hE dJ27_copyOfRangeByte_20 ?_
  refine lv_iload_n hx hb dJ27_copyOfRangeByte_21 rfl (lv_at hl 3 rfl) ?_
  refine lv_isub hx hb dJ27_copyOfRangeByte_22 ?_
  refine lv_iload_n hx hb dJ27_copyOfRangeByte_23 rfl (lv_at hl 1 rfl) ?_
  refine va_mmin hx hb (X.2.2.1.trans hl.1.symm) X.2.2.2.1 (X.2.2.2.2.1 _ q770) (X.2.2.2.2.1 _ q536) (X.2.2.2.2.1 _ q159) (X.2.2.2.2.1 _ q537) (Nat.le_of_ble_eq_true rfl) (Nat.le_of_ble_eq_true rfl) hk.1 hk.2 dJ27_copyOfRangeByte_24 ?_
  obtain ⟨⟨w1, w2, w3, w4, w5, w6⟩, hw⟩ := hw
  refine ro_cpy X Y hE (arAt_ar Y 0 (t := 3) rfl) q771 q773 q772 q148 hl.1 w1 w2 w3 w4 w5 w6 (Nat.le_of_ble_eq_true rfl) (Nat.le_of_ble_eq_true rfl) dJ27_copyOfRangeByte_27 (fun H locs Y => ?_)
  have Y : Wo Γ A s H locs [[(q1, .inl (Γ.2.1 3, m2, .inl (va_cpy sf (fun _ => 0) a1.toNatClampNeg (0 : Int32).toNatClampNeg (if (a2 - a1) < ((nI sn) - a1) then (a2 - a1) else ((nI sn) - a1)).toNatClampNeg)))]] := Y
  refine lv_aload hx hb dJ27_copyOfRangeByte_30 (lv_at hl 0 rfl) ?_
  subst hQ
  exact re_r (r := some q1) X Y hr (by first | exact Or.inl ⟨_, rfl⟩ | exact Or.inr ⟨_, rfl⟩) hlk (q1, m2, va_cpy sf (fun _ => 0) a1.toNatClampNeg (0 : Int32).toNatClampNeg (if (a2 - a1) < ((nI sn) - a1) then (a2 - a1) else ((nI sn) - a1)).toNatClampNeg) rfl ⟨rfl, hw⟩ (hk.1) (hk.2) dJ27_copyOfRangeByte_32
def wpJ27_copyOfRanger (mc ms : Nat) (K : (Nat) → (Nat) → (Nat → Int32) → Prop)  (sv : Nat) (sn : Nat) (sf : Nat → Int32) (a1 : Int32) (a2 : Int32) : Prop := ∃ J1 : Prop, (J1 → (∃ mc5 ms6 : Nat, (0 + mc5 ≤ mc ∧ 0 + ms6 ≤ ms) ∧ wpJ27_copyOfRangeByter mc5 ms6 (fun q2 q3 z4 => (K q2 q3 z4))  sv sn sf a1 a2)) ∧ ((a1 = 0 → ((a2 = (nI sn) → (False)) ∧ (¬ a2 = (nI sn) → (J1)))) ∧ (¬ a1 = 0 → (J1)))
abbrev rmJ27_copyOfRanger (mc ms : Nat) : Room := { frames := 2, cells := mc, slots := ms, locals := 84 }
set_option maxHeartbeats 4000000 in
theorem mtJ27_copyOfRanger {Γ : gT} {l : Launch} {mc ms : Nat} {sv : Nat} {sn : Nat} {sf : Nat → Int32} {a1 : Int32} {a2 : Int32} {K : (Nat) → (Nat) → (Nat → Int32) → Prop}  (hw : wpJ27_copyOfRanger mc ms K  sv sn sf a1 a2) : cR Γ l yJ27_copyOfRange (ws_ yJ27_copyOfRange cJ27_copyOfRange 3 (some (.array .byte))) (rmJ27_copyOfRanger mc ms) (eT3 sv sn sf) [.ref sv, .int a1, .int a2] [] (fun u : (Nat) × (Nat) × (Nat → Int32) => [[(u.1, .inl (Γ.2.1 3, u.2.1, .inl u.2.2))]]) (fun r u => r = some u.1 ∧ K u.1 u.2.1 u.2.2) := by
  refine cR_of (by decide +kernel) (Nat.le_of_ble_eq_true rfl) ?_
  intro p e s m args below meth c ls A Q hQ X hr hlk hnm hE Y hl
  have hx := X.1
  have hb := X.2.1
  have hl : lv_has ls 3 [(0, .ref sv), (1, .int a1), (2, .int a2)] := hl
  unfold wpJ27_copyOfRanger at hw
  obtain ⟨H, hH⟩ : ∃ H : Heap, H = s.heap := ⟨_, rfl⟩
  obtain ⟨locs, hlo⟩ : ∃ locs : List Loc, locs = [] := ⟨_, rfl⟩
  rw [← hH, ← hlo] at Y
  rw [← hH, ← hlo]
  have hk : 0 ≤ mc ∧ 0 ≤ ms := ⟨Nat.zero_le _, Nat.zero_le _⟩
  refine lv_iload_n hx hb dJ27_copyOfRange_0 rfl (lv_at hl 1 rfl) ?_
  obtain ⟨J1, hwR, hw⟩ := hw
  have hJ1 : ∀ (H : Heap) (locs : List Loc) (ls : Array Slot), J1  → (0 ≤ mc ∧ 0 ≤ ms) → Wo Γ A s H locs [] → lv_has ls 3 [(0, .ref sv), (1, .int a1), (2, .int a2)] → W p l e (rmJ27_copyOfRanger mc ms) s m args below meth c H locs 0 0 Q (F0 m 10 ls []) := by
    intro  H locs ls hw hk Y hl
    have hw := hwR  hw
    refine lv_aload_n hx hb dJ27_copyOfRange_10 rfl (lv_at hl 0 rfl) ?_
    refine lv_iload_n hx hb dJ27_copyOfRange_11 rfl (lv_at hl 1 rfl) ?_
    refine lv_iload_n hx hb dJ27_copyOfRange_12 rfl (lv_at hl 2 rfl) ?_
    obtain ⟨mc5, ms6, hk2, hw⟩ := hw
    refine cl_SR X Y [] [] rfl rfl rfl eT3_bl (fun U hU hW => ((eT3_tr.at X hE Y [] [] rfl rfl) U hU hW)) (mtJ27_copyOfRangeByter (Γ := Γ) (l := l) (mc := mc5) (ms := ms6) hw) (lw_S q677 q678 q167 q679) hdJ27_copyOfRangeByte ⟨Nat.le_of_ble_eq_true rfl, Nat.le_of_ble_eq_true rfl⟩ rfl hl.1 rfl (Nat.le_of_ble_eq_true rfl) dJ27_copyOfRange_13 hk2 (fun r u H locs hw Y => ?_)
    obtain ⟨q2, q3, z4⟩ := u
    obtain ⟨rfl, hw⟩ := hw
    have hk : 0 + mc5 ≤ mc ∧ 0 + ms6 ≤ ms := hk2
    have Y : Wo Γ A s H locs [[(q2, .inl (Γ.2.1 3, q3, .inl z4))]] := Y
    subst hQ
    exact re_r (r := some q2) X Y hr (by first | exact Or.inl ⟨_, rfl⟩ | exact Or.inr ⟨_, rfl⟩) hlk (q2, q3, z4) rfl ⟨rfl, hw⟩ (hk.1) (hk.2) dJ27_copyOfRange_16
  refine lv_if_ne (tgt := 10) hx hb dJ27_copyOfRange_1 (by decide) (fun hc => ?_) (fun hc => ?_)
  · have hw := hw.2 hc
    exact hJ1  H locs ls hw hk Y (lv_sub hl [0, 1, 2] rfl)
  · have hw := hw.1 hc
    refine lv_iload_n hx hb dJ27_copyOfRange_4 rfl (lv_at hl 2 rfl) ?_
    refine lv_aload_n hx hb dJ27_copyOfRange_5 rfl (lv_at hl 0 rfl) ?_
    refine ro_len X Y hE dJ27_copyOfRange_6 ?_
    refine lv_icmp_eq (tgt := 17) hx hb dJ27_copyOfRange_7 (by decide) (fun hc => ?_) (fun hc => ?_)
    · have hw := hw.1 hc
      refine lv_aload_n hx hb dJ27_copyOfRange_17 rfl (lv_at hl 0 rfl) ?_
      exact hw.elim
    · have hw := hw.2 hc
      exact hJ1  H locs ls hw hk Y (lv_sub hl [0, 1, 2] rfl)
def wpJ7_init_3 (K : (Int32) → Prop)  (o : Nat) (va : Nat) (cp : Nat) (f : Nat → Int32) (a1 : Int32) : Prop := (narrow .byte (.int a1) = .int a1 ∧ fits .byte (.int a1) = true) ∧ (K a1)
abbrev rmJ7_init_3 : Room := { frames := 1, cells := 0, slots := 0, locals := 20 }
theorem hdJ7_init_3 : yJ7_init_3.cls ≠ "java/lang/invoke/MethodHandle" ∧ yJ7_init_3.cls ≠ "java/lang/invoke/VarHandle" ∧ (parseMethodDescriptor yJ7_init_3.desc).map (fun d => d.parameters.length) = some 2 := by decide +kernel
set_option maxHeartbeats 4000000 in
theorem mtJ7_init_3 {Γ : gT} {l : Launch} {o : Nat} {va : Nat} {cp : Nat} {f : Nat → Int32} {a1 : Int32} {K : (Int32) → Prop}  (hw : wpJ7_init_3 K  o va cp f a1) : cV Γ l yJ7_init_3 (ws_ yJ7_init_3 cJ7_init_3 3 none) rmJ7_init_3 E0 [.ref o, .ref va, .int a1] [[(o, .inr (16, [.null, .int 0, .int 0, .int 0]))], [(va, .inl (Γ.2.1 3, cp, .inl f))]] (fun u : (Int32) => [[(o, .inr (16, [.ref va, .int u, .int 0, .int 0]))], [(va, .inl (Γ.2.1 3, cp, .inl f))]]) (fun u => K u) := by
  refine cV_of (by decide +kernel) (Nat.le_of_ble_eq_true rfl) ?_
  intro p e s m args below meth c ls A Q hQ X hr hlk hnm hE Y hl
  have hx := X.1
  have hb := X.2.1
  have hl : lv_has ls 3 [(0, .ref o), (1, .ref va), (2, .int a1)] := hl
  unfold wpJ7_init_3 at hw
  obtain ⟨H, hH⟩ : ∃ H : Heap, H = s.heap := ⟨_, rfl⟩
  obtain ⟨locs, hlo⟩ : ∃ locs : List Loc, locs = [] := ⟨_, rfl⟩
  rw [← hH, ← hlo] at Y
  rw [← hH, ← hlo]
  refine lv_aload_n hx hb dJ7_init_3_0 rfl (lv_at hl 0 rfl) ?_
  refine W.objInit hx hb X.2.2.2.1 (X.2.2.2.2.1 _ q655) (X.2.2.2.2.1 _ q195) (X.2.2.2.2.1 _ q196) rfl (by rw [X.2.2.1]; exact hl.1) rfl dJ7_init_3_1 (Nat.le_of_ble_eq_true rfl) (Nat.le_of_ble_eq_true rfl) ?_
  refine W.eq (g2 := F0 m 4 ls []) rfl ?_
  refine lv_aload_n hx hb dJ7_init_3_4 rfl (lv_at hl 0 rfl) ?_
  refine lv_aload_n hx hb dJ7_init_3_5 rfl (lv_at hl 1 rfl) ?_
  refine ob_putF X Y 0 rfl fcJ7 0 (by decide) (X.2.2.2.2.1 _ q879) rfl hnm rfl (by first | rfl | exact op_nar _ | exact op_narA _) (by first | rfl | exact op_fit _ | exact op_fitA _) (Nat.le_of_ble_eq_true rfl) dJ7_init_3_6 (fun H locs Y => ?_)
  have Y : Wo Γ A s H locs [[(o, .inr (16, [.ref va, .int 0, .int 0, .int 0]))], [(va, .inl (Γ.2.1 3, cp, .inl f))]] := Y
  refine lv_aload_n hx hb dJ7_init_3_9 rfl (lv_at hl 0 rfl) ?_
  refine lv_iload_n hx hb dJ7_init_3_10 rfl (lv_at hl 2 rfl) ?_
  refine ob_putF X Y 0 rfl fcJ7 1 (by decide) (X.2.2.2.2.1 _ q880) rfl hnm rfl hw.1.1 hw.1.2 (Nat.le_of_ble_eq_true rfl) dJ7_init_3_11 (fun H locs Y => ?_)
  have Y : Wo Γ A s H locs [[(o, .inr (16, [.ref va, .int a1, .int 0, .int 0]))], [(va, .inl (Γ.2.1 3, cp, .inl f))]] := Y
  have hw := hw.2
  subst hQ
  exact re_v X Y hr hlk a1 rfl hw (Nat.le_of_ble_eq_true rfl) (Nat.le_of_ble_eq_true rfl) dJ7_init_3_14
def wpJ7_init_2 (mc ms : Nat) (K : (Int32) → (Nat) → (Nat) → (Nat → Int32) → Prop)  (o : Nat) (b : Nat) (cd : Int32) (ml : Int32) (n : Int32) (va : Nat) (cp : Nat) (f : Nat → Int32) : Prop := wpJ5_getValue (wpJ6_length (fun r1 => (wpJ5_isLatin1 (fun r2 => ((r2 = 0 → (∃ J3 : Prop, (J3 → (∃ mc7 ms8 : Nat, (0 + mc7 ≤ mc ∧ 0 + ms8 ≤ ms) ∧ wpJ27_copyOfRange mc7 ms8 (fun q4 q5 z6 => (K 1 q4 q5 z6))  va cp f 0 (r1 <<< (1 &&& 31)))) ∧ (((1 : Int32) = 0 → (J3)) ∧ (¬ (1 : Int32) = 0 → ((ml = 0 → (J3)) ∧ (¬ ml = 0 → (False))))))) ∧ (¬ r2 = 0 → (∃ mc12 ms13 : Nat, (0 + mc12 ≤ mc ∧ 0 + ms13 ≤ ms) ∧ wpJ27_copyOfRange mc12 ms13 (fun q9 q10 z11 => (K 0 q9 q10 z11))  va cp f 0 r1))))  b cd ml n va cp f))  b cd ml n va cp f)  b cd ml n va cp f
abbrev rmJ7_init_2 (mc ms : Nat) : Room := { frames := 3, cells := mc, slots := ms, locals := 106 }
theorem hdJ7_init_2 : yJ7_init_2.cls ≠ "java/lang/invoke/MethodHandle" ∧ yJ7_init_2.cls ≠ "java/lang/invoke/VarHandle" ∧ (parseMethodDescriptor yJ7_init_2.desc).map (fun d => d.parameters.length) = some 2 := by decide +kernel
set_option maxHeartbeats 4000000 in
theorem mtJ7_init_2 {Γ : gT} {l : Launch} {mc ms : Nat} {o : Nat} {b : Nat} {cd : Int32} {ml : Int32} {n : Int32} {va : Nat} {cp : Nat} {f : Nat → Int32} {K : (Int32) → (Nat) → (Nat) → (Nat → Int32) → Prop}  (hw : wpJ7_init_2 mc ms K  o b cd ml n va cp f) : cV Γ l yJ7_init_2 (ws_ yJ7_init_2 cJ7_init_2 5 none) (rmJ7_init_2 mc ms) (eN Γ) [.ref o, .ref b, .null] [[(o, .inr (16, [.null, .int 0, .int 0, .int 0]))], [(b, .inr (15, [.ref va, .int cd, .int ml, .int n]))], [(va, .inl (Γ.2.1 3, cp, .inl f))]] (fun u : (Int32) × (Nat) × (Nat) × (Nat → Int32) => [[(o, .inr (16, [.ref u.2.1, .int u.1, .int 0, .int 0]))], [(u.2.1, .inl (Γ.2.1 3, u.2.2.1, .inl u.2.2.2))], [(b, .inr (15, [.ref va, .int cd, .int ml, .int n]))], [(va, .inl (Γ.2.1 3, cp, .inl f))]]) (fun u => K u.1 u.2.1 u.2.2.1 u.2.2.2) := by
  refine cV_of (by decide +kernel) (Nat.le_of_ble_eq_true rfl) ?_
  intro p e s m args below meth c ls A Q hQ X hr hlk hnm hE Y hl
  have hx := X.1
  have hb := X.2.1
  have hl : lv_has ls 5 [(0, .ref o), (1, .ref b), (2, .null)] := hl
  unfold wpJ7_init_2 at hw
  obtain ⟨H, hH⟩ : ∃ H : Heap, H = s.heap := ⟨_, rfl⟩
  obtain ⟨locs, hlo⟩ : ∃ locs : List Loc, locs = [] := ⟨_, rfl⟩
  rw [← hH, ← hlo] at Y
  rw [← hH, ← hlo]
  have hk : 0 ≤ mc ∧ 0 ≤ ms := ⟨Nat.zero_le _, Nat.zero_le _⟩
  refine lv_aload_n hx hb dJ7_init_2_0 rfl (lv_at hl 0 rfl) ?_
  refine W.objInit hx hb X.2.2.2.1 (X.2.2.2.2.1 _ q655) (X.2.2.2.2.1 _ q195) (X.2.2.2.2.1 _ q196) rfl (by rw [X.2.2.1]; exact hl.1) rfl dJ7_init_2_1 (Nat.le_of_ble_eq_true rfl) (Nat.le_of_ble_eq_true rfl) ?_
  refine W.eq (g2 := F0 m 4 ls []) rfl ?_
  refine lv_aload_n hx hb dJ7_init_2_4 rfl (lv_at hl 1 rfl) ?_
  refine cv_UR X Y [1, 2] [0] rfl rfl rfl E0_bl (fun _ _ _ => trivial) (mtJ5_getValue (Γ := Γ) (l := l) hw) (lw_U q656 q658 q659 q657 q139 q660) rfl huJ5_getValue ⟨Nat.le_of_ble_eq_true rfl, Nat.le_of_ble_eq_true rfl⟩ (ob_cell X Y (b := 1) rfl List.mem_cons_self fcJ6) rfl hl.1 rfl (Nat.le_of_ble_eq_true rfl) dJ7_init_2_5 hk (fun r u H locs hw Y => ?_)
  obtain ⟨rfl, hw⟩ := hw
  have Y : Wo Γ A s H locs [[(b, .inr (15, [.ref va, .int cd, .int ml, .int n]))], [(va, .inl (Γ.2.1 3, cp, .inl f))], [(o, .inr (16, [.null, .int 0, .int 0, .int 0]))]] := Y
  refine lv_astore_n (lv' := [(3, .ref va), (0, .ref o), (1, .ref b), (2, .null)]) hx hb dJ7_init_2_8 rfl hl (by decide) rfl (fun ls hl => ?_)
  refine lv_aload_n hx hb dJ7_init_2_9 rfl (lv_at hl 2 rfl) ?_
  refine cv_BI X Y [0, 1] [2] rfl rfl rfl E0_bl (fun _ _ _ => trivial) (mtJ6_length (Γ := Γ) (l := l) hw) (lw_B q661 q663 q662 q664 q665 q140 q666) q668 (by decide +kernel) ⟨Nat.le_of_ble_eq_true rfl, Nat.le_of_ble_eq_true rfl⟩ (ob_cell X Y (b := 0) rfl List.mem_cons_self fcJ6) rfl hl.1 rfl (Nat.le_of_ble_eq_true rfl) dJ7_init_2_10 hk (fun r1 u H locs hw Y => ?_)
  have Y : Wo Γ A s H locs [[(b, .inr (15, [.ref va, .int cd, .int ml, .int n]))], [(va, .inl (Γ.2.1 3, cp, .inl f))], [(o, .inr (16, [.null, .int 0, .int 0, .int 0]))]] := Y
  refine lv_istore (lv' := [(4, .int r1), (3, .ref va), (0, .ref o), (1, .ref b), (2, .null)]) hx hb dJ7_init_2_13 hl (by decide) rfl (fun ls hl => ?_)
  refine lv_aload_n hx hb dJ7_init_2_15 rfl (lv_at hl 3 rfl) ?_
  refine cv_UI X Y [0, 1] [2] rfl rfl rfl eN_bl (fun U hU hW => ((eN_tr.at X hE Y [0, 1] [2] rfl rfl) U hU hW)) (mtJ5_isLatin1 (Γ := Γ) (l := l) hw) (lw_U q669 q671 q672 q670 q139 q673) rfl huJ5_isLatin1 ⟨Nat.le_of_ble_eq_true rfl, Nat.le_of_ble_eq_true rfl⟩ (ob_cell X Y (b := 0) rfl List.mem_cons_self fcJ6) rfl hl.1 rfl (Nat.le_of_ble_eq_true rfl) dJ7_init_2_16 hk (fun r2 u H locs hw Y => ?_)
  have Y : Wo Γ A s H locs [[(b, .inr (15, [.ref va, .int cd, .int ml, .int n]))], [(va, .inl (Γ.2.1 3, cp, .inl f))], [(o, .inr (16, [.null, .int 0, .int 0, .int 0]))]] := Y
  refine lv_if_eq (tgt := 41) hx hb dJ7_init_2_19 (by decide) (fun hc => ?_) (fun hc => ?_)
  · have hw := hw.1 hc
    refine st_getI X Y hE 0 rfl (X.2.2.2.2.1 _ q517) dJ7_init_2_41 ?_
    obtain ⟨J3, hwR, hw⟩ := hw
    have hJ3 : ∀ (H : Heap) (locs : List Loc) (ls : Array Slot), J3  → (0 ≤ mc ∧ 0 ≤ ms) → Wo Γ A s H locs [[(b, .inr (15, [.ref va, .int cd, .int ml, .int n]))], [(va, .inl (Γ.2.1 3, cp, .inl f))], [(o, .inr (16, [.null, .int 0, .int 0, .int 0]))]] → lv_has ls 5 [(0, .ref o), (3, .ref va), (4, .int r1)] → W p l e (rmJ7_init_2 mc ms) s m args below meth c H locs 0 0 Q (F0 m 79 ls []) := by
      intro  H locs ls hw hk Y hl
      have hw := hwR  hw
      refine lv_aload_n hx hb dJ7_init_2_79 rfl (lv_at hl 0 rfl) ?_
      refine lv_iconst (v := 1) hx hb dJ7_init_2_80 rfl ?_
      refine ob_putF X Y 2 rfl fcJ7 1 (by decide) (X.2.2.2.2.1 _ q880) rfl hnm rfl rfl rfl (Nat.le_of_ble_eq_true rfl) dJ7_init_2_81 (fun H locs Y => ?_)
      have Y : Wo Γ A s H locs [[(b, .inr (15, [.ref va, .int cd, .int ml, .int n]))], [(va, .inl (Γ.2.1 3, cp, .inl f))], [(o, .inr (16, [.null, .int 1, .int 0, .int 0]))]] := Y
      refine lv_aload_n hx hb dJ7_init_2_84 rfl (lv_at hl 0 rfl) ?_
      refine lv_aload_n hx hb dJ7_init_2_85 rfl (lv_at hl 1 rfl) ?_
      refine lv_iconst (v := 0) hx hb dJ7_init_2_86 rfl ?_
      refine lv_iload hx hb dJ7_init_2_87 (lv_at hl 2 rfl) ?_
      refine lv_iconst (v := 1) hx hb dJ7_init_2_89 rfl ?_
      refine lv_ishl hx hb dJ7_init_2_90 ?_
      obtain ⟨mc7, ms8, hk2, hw⟩ := hw
      refine cl_SR X Y [1] [0, 2] rfl rfl rfl E0_bl (fun _ _ _ => trivial) (mtJ27_copyOfRange (Γ := Γ) (l := l) (mc := mc7) (ms := ms8) hw) (lw_S q674 q675 q167 q676) hdJ27_copyOfRange ⟨Nat.le_of_ble_eq_true rfl, Nat.le_of_ble_eq_true rfl⟩ rfl hl.1 rfl (Nat.le_of_ble_eq_true rfl) dJ7_init_2_91 hk2 (fun r u H locs hw Y => ?_)
      obtain ⟨q4, q5, z6⟩ := u
      obtain ⟨rfl, hw⟩ := hw
      have hk : 0 + mc7 ≤ mc ∧ 0 + ms8 ≤ ms := hk2
      have Y : Wo Γ A s H locs [[(va, .inl (Γ.2.1 3, cp, .inl f))], [(q4, .inl (Γ.2.1 3, q5, .inl z6))], [(b, .inr (15, [.ref va, .int cd, .int ml, .int n]))], [(o, .inr (16, [.null, .int 1, .int 0, .int 0]))]] := Y
      refine ob_putF X Y 3 rfl fcJ7 0 (by decide) (X.2.2.2.2.1 _ q879) rfl hnm rfl (by first | rfl | exact op_nar _ | exact op_narA _) (by first | rfl | exact op_fit _ | exact op_fitA _) (Nat.le_of_ble_eq_true rfl) dJ7_init_2_94 (fun H locs Y => ?_)
      have Y : Wo Γ A s H locs [[(va, .inl (Γ.2.1 3, cp, .inl f))], [(q4, .inl (Γ.2.1 3, q5, .inl z6))], [(b, .inr (15, [.ref va, .int cd, .int ml, .int n]))], [(o, .inr (16, [.ref q4, .int 1, .int 0, .int 0]))]] := Y
      have Y : Wo Γ A s H locs [[(o, .inr (16, [.ref q4, .int 1, .int 0, .int 0]))], [(q4, .inl (Γ.2.1 3, q5, .inl z6))], [(b, .inr (15, [.ref va, .int cd, .int ml, .int n]))], [(va, .inl (Γ.2.1 3, cp, .inl f))]] := Y.perm [3, 1, 2, 0] rfl rfl
      subst hQ
      exact re_v X Y hr hlk (1, q4, q5, z6) rfl hw (hk.1) (hk.2) dJ7_init_2_97
    refine lv_if_eq (tgt := 79) hx hb dJ7_init_2_44 (by decide) (fun hc => ?_) (fun hc => ?_)
    · have hw := hw.1 hc
      exact hJ3  H locs ls hw hk Y (lv_sub hl [2, 1, 0] rfl)
    · have hw := hw.2 hc
      refine lv_aload_n hx hb dJ7_init_2_47 rfl (lv_at hl 3 rfl) ?_
      refine ob_get X Y 0 rfl fcJ6 2 (by decide) (X.2.2.2.2.1 _ q285) rfl dJ7_init_2_48 ?_
      refine lv_if_eq (tgt := 79) hx hb dJ7_init_2_51 (by decide) (fun hc => ?_) (fun hc => ?_)
      · have hw := hw.1 hc
        exact hJ3  H locs ls hw hk Y (lv_sub hl [2, 1, 0] rfl)
      · have hw := hw.2 hc
        refine lv_aload_n hx hb dJ7_init_2_54 rfl (lv_at hl 2 rfl) ?_
        refine lv_aload_n hx hb dJ7_init_2_55 rfl (lv_at hl 1 rfl) ?_
        refine lv_iconst (v := 0) hx hb dJ7_init_2_56 rfl ?_
        refine lv_iload hx hb dJ7_init_2_57 (lv_at hl 0 rfl) ?_
        exact hw.elim
  · have hw := hw.2 hc
    refine lv_aload_n hx hb dJ7_init_2_22 rfl (lv_at hl 2 rfl) ?_
    refine lv_iconst (v := 0) hx hb dJ7_init_2_23 rfl ?_
    refine ob_putF X Y 2 rfl fcJ7 1 (by decide) (X.2.2.2.2.1 _ q880) rfl hnm rfl rfl rfl (Nat.le_of_ble_eq_true rfl) dJ7_init_2_24 (fun H locs Y => ?_)
    have Y : Wo Γ A s H locs [[(b, .inr (15, [.ref va, .int cd, .int ml, .int n]))], [(va, .inl (Γ.2.1 3, cp, .inl f))], [(o, .inr (16, [.null, .int 0, .int 0, .int 0]))]] := Y
    refine lv_aload_n hx hb dJ7_init_2_27 rfl (lv_at hl 2 rfl) ?_
    refine lv_aload_n hx hb dJ7_init_2_28 rfl (lv_at hl 1 rfl) ?_
    refine lv_iconst (v := 0) hx hb dJ7_init_2_29 rfl ?_
    refine lv_iload hx hb dJ7_init_2_30 (lv_at hl 0 rfl) ?_
    obtain ⟨mc12, ms13, hk2, hw⟩ := hw
    refine cl_SR X Y [1] [0, 2] rfl rfl rfl E0_bl (fun _ _ _ => trivial) (mtJ27_copyOfRange (Γ := Γ) (l := l) (mc := mc12) (ms := ms13) hw) (lw_S q674 q675 q167 q676) hdJ27_copyOfRange ⟨Nat.le_of_ble_eq_true rfl, Nat.le_of_ble_eq_true rfl⟩ rfl hl.1 rfl (Nat.le_of_ble_eq_true rfl) dJ7_init_2_32 hk2 (fun r u H locs hw Y => ?_)
    obtain ⟨q9, q10, z11⟩ := u
    obtain ⟨rfl, hw⟩ := hw
    have hk : 0 + mc12 ≤ mc ∧ 0 + ms13 ≤ ms := hk2
    have Y : Wo Γ A s H locs [[(va, .inl (Γ.2.1 3, cp, .inl f))], [(q9, .inl (Γ.2.1 3, q10, .inl z11))], [(b, .inr (15, [.ref va, .int cd, .int ml, .int n]))], [(o, .inr (16, [.null, .int 0, .int 0, .int 0]))]] := Y
    refine ob_putF X Y 3 rfl fcJ7 0 (by decide) (X.2.2.2.2.1 _ q879) rfl hnm rfl (by first | rfl | exact op_nar _ | exact op_narA _) (by first | rfl | exact op_fit _ | exact op_fitA _) (Nat.le_of_ble_eq_true rfl) dJ7_init_2_35 (fun H locs Y => ?_)
    have Y : Wo Γ A s H locs [[(va, .inl (Γ.2.1 3, cp, .inl f))], [(q9, .inl (Γ.2.1 3, q10, .inl z11))], [(b, .inr (15, [.ref va, .int cd, .int ml, .int n]))], [(o, .inr (16, [.ref q9, .int 0, .int 0, .int 0]))]] := Y
    refine lv_goto (tgt := 97) hx hb dJ7_init_2_38 (by decide) ?_
    have Y : Wo Γ A s H locs [[(o, .inr (16, [.ref q9, .int 0, .int 0, .int 0]))], [(q9, .inl (Γ.2.1 3, q10, .inl z11))], [(b, .inr (15, [.ref va, .int cd, .int ml, .int n]))], [(va, .inl (Γ.2.1 3, cp, .inl f))]] := Y.perm [3, 1, 2, 0] rfl rfl
    subst hQ
    exact re_v X Y hr hlk (0, q9, q10, z11) rfl hw (hk.1) (hk.2) dJ7_init_2_97
def wpJ7_init (mc ms : Nat) (K : (Int32) → (Nat) → (Nat) → (Nat → Int32) → Prop)  (o : Nat) (b : Nat) (cd : Int32) (ml : Int32) (n : Int32) (va : Nat) (cp : Nat) (f : Nat → Int32) : Prop := ∃ mc5 ms6 : Nat, (0 + mc5 ≤ mc ∧ 0 + ms6 ≤ ms) ∧ wpJ7_init_2 mc5 ms6 (fun z1 q2 q3 z4 => (K z1 q2 q3 z4))  o b cd ml n va cp f
abbrev rmJ7_init (mc ms : Nat) : Room := { frames := 4, cells := mc, slots := ms, locals := 130 }
theorem hdJ7_init : yJ7_init.cls ≠ "java/lang/invoke/MethodHandle" ∧ yJ7_init.cls ≠ "java/lang/invoke/VarHandle" ∧ (parseMethodDescriptor yJ7_init.desc).map (fun d => d.parameters.length) = some 1 := by decide +kernel
set_option maxHeartbeats 4000000 in
theorem mtJ7_init {Γ : gT} {l : Launch} {mc ms : Nat} {o : Nat} {b : Nat} {cd : Int32} {ml : Int32} {n : Int32} {va : Nat} {cp : Nat} {f : Nat → Int32} {K : (Int32) → (Nat) → (Nat) → (Nat → Int32) → Prop}  (hw : wpJ7_init mc ms K  o b cd ml n va cp f) : cV Γ l yJ7_init (ws_ yJ7_init cJ7_init 2 none) (rmJ7_init mc ms) (eN Γ) [.ref o, .ref b] [[(o, .inr (16, [.null, .int 0, .int 0, .int 0]))], [(b, .inr (15, [.ref va, .int cd, .int ml, .int n]))], [(va, .inl (Γ.2.1 3, cp, .inl f))]] (fun u : (Int32) × (Nat) × (Nat) × (Nat → Int32) => [[(o, .inr (16, [.ref u.2.1, .int u.1, .int 0, .int 0]))], [(u.2.1, .inl (Γ.2.1 3, u.2.2.1, .inl u.2.2.2))], [(b, .inr (15, [.ref va, .int cd, .int ml, .int n]))], [(va, .inl (Γ.2.1 3, cp, .inl f))]]) (fun u => K u.1 u.2.1 u.2.2.1 u.2.2.2) := by
  refine cV_of (by decide +kernel) (Nat.le_of_ble_eq_true rfl) ?_
  intro p e s m args below meth c ls A Q hQ X hr hlk hnm hE Y hl
  have hx := X.1
  have hb := X.2.1
  have hl : lv_has ls 2 [(0, .ref o), (1, .ref b)] := hl
  unfold wpJ7_init at hw
  obtain ⟨H, hH⟩ : ∃ H : Heap, H = s.heap := ⟨_, rfl⟩
  obtain ⟨locs, hlo⟩ : ∃ locs : List Loc, locs = [] := ⟨_, rfl⟩
  rw [← hH, ← hlo] at Y
  rw [← hH, ← hlo]
  have hk : 0 ≤ mc ∧ 0 ≤ ms := ⟨Nat.zero_le _, Nat.zero_le _⟩
  refine lv_aload_n hx hb dJ7_init_0 rfl (lv_at hl 0 rfl) ?_
  refine lv_aload_n hx hb dJ7_init_1 rfl (lv_at hl 1 rfl) ?_
  refine lv_null hx hb dJ7_init_2 ?_
  obtain ⟨mc5, ms6, hk2, hw⟩ := hw
  refine cl_IV X Y [0, 1, 2] [] rfl rfl rfl eN_bl (fun U hU hW => ((eN_tr.at X hE Y [0, 1, 2] [] rfl rfl) U hU hW)) (mtJ7_init_2 (Γ := Γ) (l := l) (mc := mc5) (ms := ms6) hw) (lw_meth q654) (X.2.2.2.2.1 _ q141) (X.2.2.2.2.1 _ q652) (X.2.2.2.2.1 _ q653) rfl hdJ7_init_2 ⟨Nat.le_of_ble_eq_true rfl, Nat.le_of_ble_eq_true rfl⟩ rfl hl.1 rfl (Nat.le_of_ble_eq_true rfl) dJ7_init_3 hk2 (fun  u H locs hw Y => ?_)
  obtain ⟨z1, q2, q3, z4⟩ := u
  have hk : 0 + mc5 ≤ mc ∧ 0 + ms6 ≤ ms := hk2
  have Y : Wo Γ A s H locs [[(o, .inr (16, [.ref q2, .int z1, .int 0, .int 0]))], [(q2, .inl (Γ.2.1 3, q3, .inl z4))], [(b, .inr (15, [.ref va, .int cd, .int ml, .int n]))], [(va, .inl (Γ.2.1 3, cp, .inl f))]] := Y
  subst hQ
  exact re_v X Y hr hlk (z1, q2, q3, z4) rfl hw (hk.1) (hk.2) dJ7_init_6
def wpJ6_toString (mc ms : Nat) (K : (Nat) → (Int32) → (Nat) → (Nat) → (Nat → Int32) → Prop)  (o : Nat) (cd : Int32) (ml : Int32) (n : Int32) (va : Nat) (cp : Nat) (f : Nat → Int32) : Prop := (0 + 1 ≤ mc ∧ 0 + 4 ≤ ms) ∧ ∀ q1 : Nat, (∃ mc6 ms7 : Nat, ((0 + 1) + mc6 ≤ mc ∧ (0 + 4) + ms7 ≤ ms) ∧ wpJ7_init mc6 ms7 (fun z2 q3 q4 z5 => (K q1 z2 q3 q4 z5))  q1 o cd ml n va cp f)
abbrev rmJ6_toString (mc ms : Nat) : Room := { frames := 5, cells := mc, slots := ms, locals := 151 }
theorem hdJ6_toString : yJ6_toString.cls ≠ "java/lang/invoke/MethodHandle" ∧ yJ6_toString.cls ≠ "java/lang/invoke/VarHandle" ∧ (parseMethodDescriptor yJ6_toString.desc).map (fun d => d.parameters.length) = some 0 := by decide +kernel
theorem hpJ6_toString : yJ6_toString.name ≠ "<init>" ∧ (parseMethodDescriptor yJ6_toString.desc).map (fun d => d.parameters.length) = some 0 := by decide +kernel
theorem huJ6_toString : RJ6 ≠ "java/lang/invoke/MethodHandle" ∧ RJ6 ≠ "java/lang/invoke/VarHandle" ∧ (parseMethodDescriptor yJ6_toString.desc).map (fun d => d.parameters.length) = some 0 := by decide +kernel
set_option maxHeartbeats 4000000 in
theorem mtJ6_toString {Γ : gT} {l : Launch} {mc ms : Nat} {o : Nat} {cd : Int32} {ml : Int32} {n : Int32} {va : Nat} {cp : Nat} {f : Nat → Int32} {K : (Nat) → (Int32) → (Nat) → (Nat) → (Nat → Int32) → Prop}  (hw : wpJ6_toString mc ms K  o cd ml n va cp f) : cR Γ l yJ6_toString (ws_ yJ6_toString cJ6_toString 1 (some (.object "java/lang/String"))) (rmJ6_toString mc ms) (eN Γ) [.ref o] [[(o, .inr (15, [.ref va, .int cd, .int ml, .int n]))], [(va, .inl (Γ.2.1 3, cp, .inl f))]] (fun u : (Nat) × (Int32) × (Nat) × (Nat) × (Nat → Int32) => [[(u.1, .inr (16, [.ref u.2.2.1, .int u.2.1, .int 0, .int 0]))], [(u.2.2.1, .inl (Γ.2.1 3, u.2.2.2.1, .inl u.2.2.2.2))], [(o, .inr (15, [.ref va, .int cd, .int ml, .int n]))], [(va, .inl (Γ.2.1 3, cp, .inl f))]]) (fun r u => r = some u.1 ∧ K u.1 u.2.1 u.2.2.1 u.2.2.2.1 u.2.2.2.2) := by
  refine cR_of (by decide +kernel) (Nat.le_of_ble_eq_true rfl) ?_
  intro p e s m args below meth c ls A Q hQ X hr hlk hnm hE Y hl
  have hx := X.1
  have hb := X.2.1
  have hl : lv_has ls 1 [(0, .ref o)] := hl
  unfold wpJ6_toString at hw
  obtain ⟨H, hH⟩ : ∃ H : Heap, H = s.heap := ⟨_, rfl⟩
  obtain ⟨locs, hlo⟩ : ∃ locs : List Loc, locs = [] := ⟨_, rfl⟩
  rw [← hH, ← hlo] at Y
  rw [← hH, ← hlo]
  have hk : 0 ≤ mc ∧ 0 ≤ ms := ⟨Nat.zero_le _, Nat.zero_le _⟩
  refine ob_new X Y fcJ7 q647 q648 q141 (fs := [.null, .int 0, .int 0, .int 0]) (fun j hj => by rcases (show j = 0 ∨ j = 1 ∨ j = 2 ∨ j = 3 by omega) with rfl | rfl | rfl | rfl <;> rfl) hw.1.1 hw.1.2 dJ6_toString_0 (fun q1 H Y => ?_)
  have hk := hw.1
  have Y : Wo Γ A s H locs [[(o, .inr (15, [.ref va, .int cd, .int ml, .int n]))], [(va, .inl (Γ.2.1 3, cp, .inl f))], [(q1, .inr (16, [.null, .int 0, .int 0, .int 0]))]] := Y
  have hw := hw.2 q1
  refine lv_dup hx hb dJ6_toString_3 rfl ?_
  refine lv_aload_n hx hb dJ6_toString_4 rfl (lv_at hl 0 rfl) ?_
  obtain ⟨mc6, ms7, hk2, hw⟩ := hw
  refine cl_IV X Y [2, 0, 1] [] rfl rfl rfl eN_bl (fun U hU hW => ((eN_tr.at X hE Y [2, 0, 1] [] rfl rfl) U hU hW)) (mtJ7_init (Γ := Γ) (l := l) (mc := mc6) (ms := ms7) hw) (lw_meth q651) (X.2.2.2.2.1 _ q141) (X.2.2.2.2.1 _ q649) (X.2.2.2.2.1 _ q650) rfl hdJ7_init ⟨Nat.le_of_ble_eq_true rfl, Nat.le_of_ble_eq_true rfl⟩ rfl hl.1 rfl (Nat.le_of_ble_eq_true rfl) dJ6_toString_5 hk2 (fun  u H locs hw Y => ?_)
  obtain ⟨z2, q3, q4, z5⟩ := u
  have hk : 0 + 1 + mc6 ≤ mc ∧ 0 + 4 + ms7 ≤ ms := hk2
  have Y : Wo Γ A s H locs [[(q1, .inr (16, [.ref q3, .int z2, .int 0, .int 0]))], [(q3, .inl (Γ.2.1 3, q4, .inl z5))], [(o, .inr (15, [.ref va, .int cd, .int ml, .int n]))], [(va, .inl (Γ.2.1 3, cp, .inl f))]] := Y
  subst hQ
  exact re_r (r := some q1) X Y hr (by first | exact Or.inl ⟨_, rfl⟩ | exact Or.inr ⟨_, rfl⟩) hlk (q1, z2, q3, q4, z5) rfl ⟨rfl, hw⟩ (hk.1) (hk.2) dJ6_toString_8
