set_option maxRecDepth 100000
/-! cast and scene: walks -/
def wpX4_init (mc ms : Nat) (K : (Nat) → (Nat) → (Nat) → (Nat) → (Nat) → (Nat) → (flT) → Prop)  (o : Nat) : Prop := (0 + 1 ≤ mc ∧ 0 + 8 ≤ ms) ∧ ∀ q1 : Nat, (((0 + 1) + 1 ≤ mc ∧ (0 + 8) + 8 ≤ ms) ∧ ∀ q2 : Nat, (((0 + 1 + 1) + 1 ≤ mc ∧ (0 + 8 + 8) + 8 ≤ ms) ∧ ∀ q3 : Nat, (((0 + 1 + 1 + 1) + 1 ≤ mc ∧ (0 + 8 + 8 + 8) + 8 ≤ ms) ∧ ∀ q4 : Nat, (((0 + 1 + 1 + 1 + 1) + 1 ≤ mc ∧ (0 + 8 + 8 + 8 + 8) + 8 ≤ ms) ∧ ∀ q5 : Nat, (((0 + 1 + 1 + 1 + 1 + 1) + 1 ≤ mc ∧ (0 + 8 + 8 + 8 + 8 + 8) + 8 ≤ ms) ∧ ∀ q6 : Nat, (K q1 q2 q3 q4 q5 q6 (numL [0, 0, 0, 0, 0, 0, 0], arrL [(fun _ => 0), (fun _ => 0), (fun _ => 0), (fun _ => 0), (fun _ => 0), (fun _ => 0), (fun _ => 0)], 0)))))))
abbrev rmX4_init (mc ms : Nat) : Room := { frames := 1, cells := mc, slots := ms, locals := 20 }
theorem hdX4_init : yX4_init.cls ≠ "java/lang/invoke/MethodHandle" ∧ yX4_init.cls ≠ "java/lang/invoke/VarHandle" ∧ (parseMethodDescriptor yX4_init.desc).map (fun d => d.parameters.length) = some 0 := by decide +kernel
set_option maxHeartbeats 4000000 in
theorem mtX4_init {Γ : gT} {l : Launch} {mc ms : Nat} {o : Nat} {K : (Nat) → (Nat) → (Nat) → (Nat) → (Nat) → (Nat) → (flT) → Prop}  (hw : wpX4_init mc ms K  o) : cV Γ l yX4_init (ws_ yX4_init cX4_init 1 none) (rmX4_init mc ms) E0 [.ref o] [[(o, .inr (3, [.int 0, .null, .null, .null, .null, .null, .null]))]] (fun u : (Nat) × (Nat) × (Nat) × (Nat) × (Nat) × (Nat) × (flT) => [flW Γ 3 shX4 o (adL [0, u.1, u.2.1, u.2.2.1, u.2.2.2.1, u.2.2.2.2.1, u.2.2.2.2.2.1]) u.2.2.2.2.2.2]) (fun u => K u.1 u.2.1 u.2.2.1 u.2.2.2.1 u.2.2.2.2.1 u.2.2.2.2.2.1 u.2.2.2.2.2.2) := by
  refine cV_of (by decide +kernel) (Nat.le_of_ble_eq_true rfl) ?_
  intro p e s m args below meth c ls A Q hQ X hr hlk hnm hE Y hl
  have hx := X.1
  have hb := X.2.1
  have hl : lv_has ls 1 [(0, .ref o)] := hl
  unfold wpX4_init at hw
  obtain ⟨H, hH⟩ : ∃ H : Heap, H = s.heap := ⟨_, rfl⟩
  obtain ⟨locs, hlo⟩ : ∃ locs : List Loc, locs = [] := ⟨_, rfl⟩
  rw [← hH, ← hlo] at Y
  rw [← hH, ← hlo]
  have hk : 0 ≤ mc ∧ 0 ≤ ms := ⟨Nat.zero_le _, Nat.zero_le _⟩
  refine lv_aload_n hx hb dX4_init_0 rfl (lv_at hl 0 rfl) ?_
  refine W.objInit hx hb X.2.2.2.1 (X.2.2.2.2.1 _ q302) (X.2.2.2.2.1 _ q195) (X.2.2.2.2.1 _ q196) rfl (by rw [X.2.2.1]; exact hl.1) rfl dX4_init_1 (Nat.le_of_ble_eq_true rfl) (Nat.le_of_ble_eq_true rfl) ?_
  refine W.eq (g2 := F0 m 4 ls []) rfl ?_
  refine lv_aload_n hx hb dX4_init_4 rfl (lv_at hl 0 rfl) ?_
  refine lv_bipush (v := 8) hx hb dX4_init_5 rfl ?_
  have hk := hw.1
  refine ar_new1 X Y (N := 8) (by decide) (by decide) (by decide) hk.1 hk.2 dX4_init_7 (fun q1 H Y => ?_)
  have Y : Wo Γ A s H locs [[(o, .inr (3, [.int 0, .null, .null, .null, .null, .null, .null]))], [(q1, .inl (Γ.2.1 1, 8, .inl (fun _ => 0)))]] := Y
  have hw := hw.2 q1
  refine ob_putF X Y 0 rfl fcX4 1 (by decide) (X.2.2.2.2.1 _ q307) rfl hnm rfl (by first | rfl | exact op_nar _ | exact op_narA _) (by first | rfl | exact op_fit _ | exact op_fitA _) (Nat.le_of_ble_eq_true rfl) dX4_init_9 (fun H locs Y => ?_)
  have Y : Wo Γ A s H locs [[(o, .inr (3, [.int 0, .ref q1, .null, .null, .null, .null, .null]))], [(q1, .inl (Γ.2.1 1, 8, .inl (fun _ => 0)))]] := Y
  refine lv_aload_n hx hb dX4_init_12 rfl (lv_at hl 0 rfl) ?_
  refine lv_bipush (v := 8) hx hb dX4_init_13 rfl ?_
  have hk := hw.1
  refine ar_new1 X Y (N := 8) (by decide) (by decide) (by decide) hk.1 hk.2 dX4_init_15 (fun q2 H Y => ?_)
  have Y : Wo Γ A s H locs [[(o, .inr (3, [.int 0, .ref q1, .null, .null, .null, .null, .null]))], [(q1, .inl (Γ.2.1 1, 8, .inl (fun _ => 0)))], [(q2, .inl (Γ.2.1 1, 8, .inl (fun _ => 0)))]] := Y
  have hw := hw.2 q2
  refine ob_putF X Y 0 rfl fcX4 2 (by decide) (X.2.2.2.2.1 _ q311) rfl hnm rfl (by first | rfl | exact op_nar _ | exact op_narA _) (by first | rfl | exact op_fit _ | exact op_fitA _) (Nat.le_of_ble_eq_true rfl) dX4_init_17 (fun H locs Y => ?_)
  have Y : Wo Γ A s H locs [[(o, .inr (3, [.int 0, .ref q1, .ref q2, .null, .null, .null, .null]))], [(q1, .inl (Γ.2.1 1, 8, .inl (fun _ => 0)))], [(q2, .inl (Γ.2.1 1, 8, .inl (fun _ => 0)))]] := Y
  refine lv_aload_n hx hb dX4_init_20 rfl (lv_at hl 0 rfl) ?_
  refine lv_bipush (v := 8) hx hb dX4_init_21 rfl ?_
  have hk := hw.1
  refine ar_new0 X Y (N := 8) (by decide) (by decide) (by decide) hk.1 hk.2 dX4_init_23 (fun q3 H Y => ?_)
  have Y : Wo Γ A s H locs [[(o, .inr (3, [.int 0, .ref q1, .ref q2, .null, .null, .null, .null]))], [(q1, .inl (Γ.2.1 1, 8, .inl (fun _ => 0)))], [(q2, .inl (Γ.2.1 1, 8, .inl (fun _ => 0)))], [(q3, .inl (Γ.2.1 0, 8, .inl (fun _ => 0)))]] := Y
  have hw := hw.2 q3
  refine ob_putF X Y 0 rfl fcX4 3 (by decide) (X.2.2.2.2.1 _ q314) rfl hnm rfl (by first | rfl | exact op_nar _ | exact op_narA _) (by first | rfl | exact op_fit _ | exact op_fitA _) (Nat.le_of_ble_eq_true rfl) dX4_init_25 (fun H locs Y => ?_)
  have Y : Wo Γ A s H locs [[(o, .inr (3, [.int 0, .ref q1, .ref q2, .ref q3, .null, .null, .null]))], [(q1, .inl (Γ.2.1 1, 8, .inl (fun _ => 0)))], [(q2, .inl (Γ.2.1 1, 8, .inl (fun _ => 0)))], [(q3, .inl (Γ.2.1 0, 8, .inl (fun _ => 0)))]] := Y
  refine lv_aload_n hx hb dX4_init_28 rfl (lv_at hl 0 rfl) ?_
  refine lv_bipush (v := 8) hx hb dX4_init_29 rfl ?_
  have hk := hw.1
  refine ar_new0 X Y (N := 8) (by decide) (by decide) (by decide) hk.1 hk.2 dX4_init_31 (fun q4 H Y => ?_)
  have Y : Wo Γ A s H locs [[(o, .inr (3, [.int 0, .ref q1, .ref q2, .ref q3, .null, .null, .null]))], [(q1, .inl (Γ.2.1 1, 8, .inl (fun _ => 0)))], [(q2, .inl (Γ.2.1 1, 8, .inl (fun _ => 0)))], [(q3, .inl (Γ.2.1 0, 8, .inl (fun _ => 0)))], [(q4, .inl (Γ.2.1 0, 8, .inl (fun _ => 0)))]] := Y
  have hw := hw.2 q4
  refine ob_putF X Y 0 rfl fcX4 4 (by decide) (X.2.2.2.2.1 _ q317) rfl hnm rfl (by first | rfl | exact op_nar _ | exact op_narA _) (by first | rfl | exact op_fit _ | exact op_fitA _) (Nat.le_of_ble_eq_true rfl) dX4_init_33 (fun H locs Y => ?_)
  have Y : Wo Γ A s H locs [[(o, .inr (3, [.int 0, .ref q1, .ref q2, .ref q3, .ref q4, .null, .null]))], [(q1, .inl (Γ.2.1 1, 8, .inl (fun _ => 0)))], [(q2, .inl (Γ.2.1 1, 8, .inl (fun _ => 0)))], [(q3, .inl (Γ.2.1 0, 8, .inl (fun _ => 0)))], [(q4, .inl (Γ.2.1 0, 8, .inl (fun _ => 0)))]] := Y
  refine lv_aload_n hx hb dX4_init_36 rfl (lv_at hl 0 rfl) ?_
  refine lv_bipush (v := 8) hx hb dX4_init_37 rfl ?_
  have hk := hw.1
  refine ar_new0 X Y (N := 8) (by decide) (by decide) (by decide) hk.1 hk.2 dX4_init_39 (fun q5 H Y => ?_)
  have Y : Wo Γ A s H locs [[(o, .inr (3, [.int 0, .ref q1, .ref q2, .ref q3, .ref q4, .null, .null]))], [(q1, .inl (Γ.2.1 1, 8, .inl (fun _ => 0)))], [(q2, .inl (Γ.2.1 1, 8, .inl (fun _ => 0)))], [(q3, .inl (Γ.2.1 0, 8, .inl (fun _ => 0)))], [(q4, .inl (Γ.2.1 0, 8, .inl (fun _ => 0)))], [(q5, .inl (Γ.2.1 0, 8, .inl (fun _ => 0)))]] := Y
  have hw := hw.2 q5
  refine ob_putF X Y 0 rfl fcX4 5 (by decide) (X.2.2.2.2.1 _ q320) rfl hnm rfl (by first | rfl | exact op_nar _ | exact op_narA _) (by first | rfl | exact op_fit _ | exact op_fitA _) (Nat.le_of_ble_eq_true rfl) dX4_init_41 (fun H locs Y => ?_)
  have Y : Wo Γ A s H locs [[(o, .inr (3, [.int 0, .ref q1, .ref q2, .ref q3, .ref q4, .ref q5, .null]))], [(q1, .inl (Γ.2.1 1, 8, .inl (fun _ => 0)))], [(q2, .inl (Γ.2.1 1, 8, .inl (fun _ => 0)))], [(q3, .inl (Γ.2.1 0, 8, .inl (fun _ => 0)))], [(q4, .inl (Γ.2.1 0, 8, .inl (fun _ => 0)))], [(q5, .inl (Γ.2.1 0, 8, .inl (fun _ => 0)))]] := Y
  refine lv_aload_n hx hb dX4_init_44 rfl (lv_at hl 0 rfl) ?_
  refine lv_bipush (v := 8) hx hb dX4_init_45 rfl ?_
  have hk := hw.1
  refine ar_new0 X Y (N := 8) (by decide) (by decide) (by decide) hk.1 hk.2 dX4_init_47 (fun q6 H Y => ?_)
  have Y : Wo Γ A s H locs [[(o, .inr (3, [.int 0, .ref q1, .ref q2, .ref q3, .ref q4, .ref q5, .null]))], [(q1, .inl (Γ.2.1 1, 8, .inl (fun _ => 0)))], [(q2, .inl (Γ.2.1 1, 8, .inl (fun _ => 0)))], [(q3, .inl (Γ.2.1 0, 8, .inl (fun _ => 0)))], [(q4, .inl (Γ.2.1 0, 8, .inl (fun _ => 0)))], [(q5, .inl (Γ.2.1 0, 8, .inl (fun _ => 0)))], [(q6, .inl (Γ.2.1 0, 8, .inl (fun _ => 0)))]] := Y
  have hw := hw.2 q6
  refine ob_putF X Y 0 rfl fcX4 6 (by decide) (X.2.2.2.2.1 _ q324) rfl hnm rfl (by first | rfl | exact op_nar _ | exact op_narA _) (by first | rfl | exact op_fit _ | exact op_fitA _) (Nat.le_of_ble_eq_true rfl) dX4_init_49 (fun H locs Y => ?_)
  have Y : Wo Γ A s H locs [[(o, .inr (3, [.int 0, .ref q1, .ref q2, .ref q3, .ref q4, .ref q5, .ref q6]))], [(q1, .inl (Γ.2.1 1, 8, .inl (fun _ => 0)))], [(q2, .inl (Γ.2.1 1, 8, .inl (fun _ => 0)))], [(q3, .inl (Γ.2.1 0, 8, .inl (fun _ => 0)))], [(q4, .inl (Γ.2.1 0, 8, .inl (fun _ => 0)))], [(q5, .inl (Γ.2.1 0, 8, .inl (fun _ => 0)))], [(q6, .inl (Γ.2.1 0, 8, .inl (fun _ => 0)))]] := Y
  have Y : Wo Γ A s H locs [flW Γ 3 shX4 o (adL [0, q1, q2, q3, q4, q5, q6]) (numL [0, 0, 0, 0, 0, 0, 0], arrL [(fun _ => 0), (fun _ => 0), (fun _ => 0), (fun _ => 0), (fun _ => 0), (fun _ => 0), (fun _ => 0)], 0)] := Y.fl rfl
  subst hQ
  exact re_v X Y hr hlk (q1, q2, q3, q4, q5, q6, (numL [0, 0, 0, 0, 0, 0, 0], arrL [(fun _ => 0), (fun _ => 0), (fun _ => 0), (fun _ => 0), (fun _ => 0), (fun _ => 0), (fun _ => 0)], 0)) rfl hw (hk.1) (hk.2) dX4_init_52
def wpX4_init_2 (mc ms : Nat) (K : (Nat) → (Nat) → (Nat) → (Nat) → (Nat) → (Nat) → (flT) → Prop)  (o : Nat) (oc : Nat) (ac : Nat → Nat) (tc : flT) : Prop := (0 + 1 ≤ mc ∧ 0 + 8 ≤ ms) ∧ ∀ q1 : Nat, (((0 + 1) + 1 ≤ mc ∧ (0 + 8) + 8 ≤ ms) ∧ ∀ q2 : Nat, (((0 + 1 + 1) + 1 ≤ mc ∧ (0 + 8 + 8) + 8 ≤ ms) ∧ ∀ q3 : Nat, (((0 + 1 + 1 + 1) + 1 ≤ mc ∧ (0 + 8 + 8 + 8) + 8 ≤ ms) ∧ ∀ q4 : Nat, (((0 + 1 + 1 + 1 + 1) + 1 ≤ mc ∧ (0 + 8 + 8 + 8 + 8) + 8 ≤ ms) ∧ ∀ q5 : Nat, (((0 + 1 + 1 + 1 + 1 + 1) + 1 ≤ mc ∧ (0 + 8 + 8 + 8 + 8 + 8) + 8 ≤ ms) ∧ ∀ q6 : Nat, ((¬ (0 : Int32) < 0 ∧ ¬ (0 : Int32) < 0 ∧ ¬ (tc.1 0) < 0 ∧ (0 : Int32).toNatClampNeg + (tc.1 0).toNatClampNeg ≤ 8 ∧ (0 : Int32).toNatClampNeg + (tc.1 0).toNatClampNeg ≤ 8 ∧ (∀ i : Nat, i < (tc.1 0).toNatClampNeg → fits .char (.int ((tc.2.1 1) ((0 : Int32).toNatClampNeg + i))) = true)) ∧ ((¬ (0 : Int32) < 0 ∧ ¬ (0 : Int32) < 0 ∧ ¬ (tc.1 0) < 0 ∧ (0 : Int32).toNatClampNeg + (tc.1 0).toNatClampNeg ≤ 8 ∧ (0 : Int32).toNatClampNeg + (tc.1 0).toNatClampNeg ≤ 8 ∧ (∀ i : Nat, i < (tc.1 0).toNatClampNeg → fits .char (.int ((tc.2.1 2) ((0 : Int32).toNatClampNeg + i))) = true)) ∧ ((¬ (0 : Int32) < 0 ∧ ¬ (0 : Int32) < 0 ∧ ¬ (tc.1 0) < 0 ∧ (0 : Int32).toNatClampNeg + (tc.1 0).toNatClampNeg ≤ 8 ∧ (0 : Int32).toNatClampNeg + (tc.1 0).toNatClampNeg ≤ 8 ∧ (∀ i : Nat, i < (tc.1 0).toNatClampNeg → fits .int (.int ((tc.2.1 3) ((0 : Int32).toNatClampNeg + i))) = true)) ∧ ((¬ (0 : Int32) < 0 ∧ ¬ (0 : Int32) < 0 ∧ ¬ (tc.1 0) < 0 ∧ (0 : Int32).toNatClampNeg + (tc.1 0).toNatClampNeg ≤ 8 ∧ (0 : Int32).toNatClampNeg + (tc.1 0).toNatClampNeg ≤ 8 ∧ (∀ i : Nat, i < (tc.1 0).toNatClampNeg → fits .int (.int ((tc.2.1 4) ((0 : Int32).toNatClampNeg + i))) = true)) ∧ ((¬ (0 : Int32) < 0 ∧ ¬ (0 : Int32) < 0 ∧ ¬ (tc.1 0) < 0 ∧ (0 : Int32).toNatClampNeg + (tc.1 0).toNatClampNeg ≤ 8 ∧ (0 : Int32).toNatClampNeg + (tc.1 0).toNatClampNeg ≤ 8 ∧ (∀ i : Nat, i < (tc.1 0).toNatClampNeg → fits .int (.int ((tc.2.1 5) ((0 : Int32).toNatClampNeg + i))) = true)) ∧ ((¬ (0 : Int32) < 0 ∧ ¬ (0 : Int32) < 0 ∧ ¬ (tc.1 0) < 0 ∧ (0 : Int32).toNatClampNeg + (tc.1 0).toNatClampNeg ≤ 8 ∧ (0 : Int32).toNatClampNeg + (tc.1 0).toNatClampNeg ≤ 8 ∧ (∀ i : Nat, i < (tc.1 0).toNatClampNeg → fits .int (.int ((tc.2.1 6) ((0 : Int32).toNatClampNeg + i))) = true)) ∧ (K q1 q2 q3 q4 q5 q6 (numL [tc.1 0, 0, 0, 0, 0, 0, 0], arrL [(fun _ => 0), (va_cpy (tc.2.1 1) (fun _ => 0) (0 : Int32).toNatClampNeg (0 : Int32).toNatClampNeg (tc.1 0).toNatClampNeg), (va_cpy (tc.2.1 2) (fun _ => 0) (0 : Int32).toNatClampNeg (0 : Int32).toNatClampNeg (tc.1 0).toNatClampNeg), (va_cpy (tc.2.1 3) (fun _ => 0) (0 : Int32).toNatClampNeg (0 : Int32).toNatClampNeg (tc.1 0).toNatClampNeg), (va_cpy (tc.2.1 4) (fun _ => 0) (0 : Int32).toNatClampNeg (0 : Int32).toNatClampNeg (tc.1 0).toNatClampNeg), (va_cpy (tc.2.1 5) (fun _ => 0) (0 : Int32).toNatClampNeg (0 : Int32).toNatClampNeg (tc.1 0).toNatClampNeg), (va_cpy (tc.2.1 6) (fun _ => 0) (0 : Int32).toNatClampNeg (0 : Int32).toNatClampNeg (tc.1 0).toNatClampNeg)], 0)))))))))))))
abbrev rmX4_init_2 (mc ms : Nat) : Room := { frames := 1, cells := mc, slots := ms, locals := 60 }
theorem hdX4_init_2 : yX4_init_2.cls ≠ "java/lang/invoke/MethodHandle" ∧ yX4_init_2.cls ≠ "java/lang/invoke/VarHandle" ∧ (parseMethodDescriptor yX4_init_2.desc).map (fun d => d.parameters.length) = some 1 := by decide +kernel
set_option maxHeartbeats 4000000 in
theorem mtX4_init_2 {Γ : gT} {l : Launch} {mc ms : Nat} {o : Nat} {oc : Nat} {ac : Nat → Nat} {tc : flT} {K : (Nat) → (Nat) → (Nat) → (Nat) → (Nat) → (Nat) → (flT) → Prop}  (hw : wpX4_init_2 mc ms K  o oc ac tc) : cV Γ l yX4_init_2 (ws_ yX4_init_2 cX4_init_2 2 none) (rmX4_init_2 mc ms) E0 [.ref o, .ref oc] [[(o, .inr (3, [.int 0, .null, .null, .null, .null, .null, .null]))], flW Γ 3 shX4 oc ac tc] (fun u : (Nat) × (Nat) × (Nat) × (Nat) × (Nat) × (Nat) × (flT) => [flW Γ 3 shX4 o (adL [0, u.1, u.2.1, u.2.2.1, u.2.2.2.1, u.2.2.2.2.1, u.2.2.2.2.2.1]) u.2.2.2.2.2.2, flW Γ 3 shX4 oc ac tc]) (fun u => K u.1 u.2.1 u.2.2.1 u.2.2.2.1 u.2.2.2.2.1 u.2.2.2.2.2.1 u.2.2.2.2.2.2) := by
  refine cV_of (by decide +kernel) (Nat.le_of_ble_eq_true rfl) ?_
  intro p e s m args below meth c ls A Q hQ X hr hlk hnm hE Y hl
  have hx := X.1
  have hb := X.2.1
  have hl : lv_has ls 2 [(0, .ref o), (1, .ref oc)] := hl
  unfold wpX4_init_2 at hw
  obtain ⟨H, hH⟩ : ∃ H : Heap, H = s.heap := ⟨_, rfl⟩
  obtain ⟨locs, hlo⟩ : ∃ locs : List Loc, locs = [] := ⟨_, rfl⟩
  rw [← hH, ← hlo] at Y
  rw [← hH, ← hlo]
  have hk : 0 ≤ mc ∧ 0 ≤ ms := ⟨Nat.zero_le _, Nat.zero_le _⟩
  refine lv_aload_n hx hb dX4_init_2_0 rfl (lv_at hl 0 rfl) ?_
  refine W.objInit hx hb X.2.2.2.1 (X.2.2.2.2.1 _ q302) (X.2.2.2.2.1 _ q195) (X.2.2.2.2.1 _ q196) rfl (by rw [X.2.2.1]; exact hl.1) rfl dX4_init_2_1 (Nat.le_of_ble_eq_true rfl) (Nat.le_of_ble_eq_true rfl) ?_
  refine W.eq (g2 := F0 m 4 ls []) rfl ?_
  refine lv_aload_n hx hb dX4_init_2_4 rfl (lv_at hl 0 rfl) ?_
  refine lv_bipush (v := 8) hx hb dX4_init_2_5 rfl ?_
  have hk := hw.1
  refine ar_new1 X Y (N := 8) (by decide) (by decide) (by decide) hk.1 hk.2 dX4_init_2_7 (fun q1 H Y => ?_)
  have Y : Wo Γ A s H locs [[(o, .inr (3, [.int 0, .null, .null, .null, .null, .null, .null]))], flW Γ 3 shX4 oc ac tc, [(q1, .inl (Γ.2.1 1, 8, .inl (fun _ => 0)))]] := Y
  have hw := hw.2 q1
  refine ob_putF X Y 0 rfl fcX4 1 (by decide) (X.2.2.2.2.1 _ q307) rfl hnm rfl (by first | rfl | exact op_nar _ | exact op_narA _) (by first | rfl | exact op_fit _ | exact op_fitA _) (Nat.le_of_ble_eq_true rfl) dX4_init_2_9 (fun H locs Y => ?_)
  have Y : Wo Γ A s H locs [[(o, .inr (3, [.int 0, .ref q1, .null, .null, .null, .null, .null]))], flW Γ 3 shX4 oc ac tc, [(q1, .inl (Γ.2.1 1, 8, .inl (fun _ => 0)))]] := Y
  refine lv_aload_n hx hb dX4_init_2_12 rfl (lv_at hl 0 rfl) ?_
  refine lv_bipush (v := 8) hx hb dX4_init_2_13 rfl ?_
  have hk := hw.1
  refine ar_new1 X Y (N := 8) (by decide) (by decide) (by decide) hk.1 hk.2 dX4_init_2_15 (fun q2 H Y => ?_)
  have Y : Wo Γ A s H locs [[(o, .inr (3, [.int 0, .ref q1, .null, .null, .null, .null, .null]))], flW Γ 3 shX4 oc ac tc, [(q1, .inl (Γ.2.1 1, 8, .inl (fun _ => 0)))], [(q2, .inl (Γ.2.1 1, 8, .inl (fun _ => 0)))]] := Y
  have hw := hw.2 q2
  refine ob_putF X Y 0 rfl fcX4 2 (by decide) (X.2.2.2.2.1 _ q311) rfl hnm rfl (by first | rfl | exact op_nar _ | exact op_narA _) (by first | rfl | exact op_fit _ | exact op_fitA _) (Nat.le_of_ble_eq_true rfl) dX4_init_2_17 (fun H locs Y => ?_)
  have Y : Wo Γ A s H locs [[(o, .inr (3, [.int 0, .ref q1, .ref q2, .null, .null, .null, .null]))], flW Γ 3 shX4 oc ac tc, [(q1, .inl (Γ.2.1 1, 8, .inl (fun _ => 0)))], [(q2, .inl (Γ.2.1 1, 8, .inl (fun _ => 0)))]] := Y
  refine lv_aload_n hx hb dX4_init_2_20 rfl (lv_at hl 0 rfl) ?_
  refine lv_bipush (v := 8) hx hb dX4_init_2_21 rfl ?_
  have hk := hw.1
  refine ar_new0 X Y (N := 8) (by decide) (by decide) (by decide) hk.1 hk.2 dX4_init_2_23 (fun q3 H Y => ?_)
  have Y : Wo Γ A s H locs [[(o, .inr (3, [.int 0, .ref q1, .ref q2, .null, .null, .null, .null]))], flW Γ 3 shX4 oc ac tc, [(q1, .inl (Γ.2.1 1, 8, .inl (fun _ => 0)))], [(q2, .inl (Γ.2.1 1, 8, .inl (fun _ => 0)))], [(q3, .inl (Γ.2.1 0, 8, .inl (fun _ => 0)))]] := Y
  have hw := hw.2 q3
  refine ob_putF X Y 0 rfl fcX4 3 (by decide) (X.2.2.2.2.1 _ q314) rfl hnm rfl (by first | rfl | exact op_nar _ | exact op_narA _) (by first | rfl | exact op_fit _ | exact op_fitA _) (Nat.le_of_ble_eq_true rfl) dX4_init_2_25 (fun H locs Y => ?_)
  have Y : Wo Γ A s H locs [[(o, .inr (3, [.int 0, .ref q1, .ref q2, .ref q3, .null, .null, .null]))], flW Γ 3 shX4 oc ac tc, [(q1, .inl (Γ.2.1 1, 8, .inl (fun _ => 0)))], [(q2, .inl (Γ.2.1 1, 8, .inl (fun _ => 0)))], [(q3, .inl (Γ.2.1 0, 8, .inl (fun _ => 0)))]] := Y
  refine lv_aload_n hx hb dX4_init_2_28 rfl (lv_at hl 0 rfl) ?_
  refine lv_bipush (v := 8) hx hb dX4_init_2_29 rfl ?_
  have hk := hw.1
  refine ar_new0 X Y (N := 8) (by decide) (by decide) (by decide) hk.1 hk.2 dX4_init_2_31 (fun q4 H Y => ?_)
  have Y : Wo Γ A s H locs [[(o, .inr (3, [.int 0, .ref q1, .ref q2, .ref q3, .null, .null, .null]))], flW Γ 3 shX4 oc ac tc, [(q1, .inl (Γ.2.1 1, 8, .inl (fun _ => 0)))], [(q2, .inl (Γ.2.1 1, 8, .inl (fun _ => 0)))], [(q3, .inl (Γ.2.1 0, 8, .inl (fun _ => 0)))], [(q4, .inl (Γ.2.1 0, 8, .inl (fun _ => 0)))]] := Y
  have hw := hw.2 q4
  refine ob_putF X Y 0 rfl fcX4 4 (by decide) (X.2.2.2.2.1 _ q317) rfl hnm rfl (by first | rfl | exact op_nar _ | exact op_narA _) (by first | rfl | exact op_fit _ | exact op_fitA _) (Nat.le_of_ble_eq_true rfl) dX4_init_2_33 (fun H locs Y => ?_)
  have Y : Wo Γ A s H locs [[(o, .inr (3, [.int 0, .ref q1, .ref q2, .ref q3, .ref q4, .null, .null]))], flW Γ 3 shX4 oc ac tc, [(q1, .inl (Γ.2.1 1, 8, .inl (fun _ => 0)))], [(q2, .inl (Γ.2.1 1, 8, .inl (fun _ => 0)))], [(q3, .inl (Γ.2.1 0, 8, .inl (fun _ => 0)))], [(q4, .inl (Γ.2.1 0, 8, .inl (fun _ => 0)))]] := Y
  refine lv_aload_n hx hb dX4_init_2_36 rfl (lv_at hl 0 rfl) ?_
  refine lv_bipush (v := 8) hx hb dX4_init_2_37 rfl ?_
  have hk := hw.1
  refine ar_new0 X Y (N := 8) (by decide) (by decide) (by decide) hk.1 hk.2 dX4_init_2_39 (fun q5 H Y => ?_)
  have Y : Wo Γ A s H locs [[(o, .inr (3, [.int 0, .ref q1, .ref q2, .ref q3, .ref q4, .null, .null]))], flW Γ 3 shX4 oc ac tc, [(q1, .inl (Γ.2.1 1, 8, .inl (fun _ => 0)))], [(q2, .inl (Γ.2.1 1, 8, .inl (fun _ => 0)))], [(q3, .inl (Γ.2.1 0, 8, .inl (fun _ => 0)))], [(q4, .inl (Γ.2.1 0, 8, .inl (fun _ => 0)))], [(q5, .inl (Γ.2.1 0, 8, .inl (fun _ => 0)))]] := Y
  have hw := hw.2 q5
  refine ob_putF X Y 0 rfl fcX4 5 (by decide) (X.2.2.2.2.1 _ q320) rfl hnm rfl (by first | rfl | exact op_nar _ | exact op_narA _) (by first | rfl | exact op_fit _ | exact op_fitA _) (Nat.le_of_ble_eq_true rfl) dX4_init_2_41 (fun H locs Y => ?_)
  have Y : Wo Γ A s H locs [[(o, .inr (3, [.int 0, .ref q1, .ref q2, .ref q3, .ref q4, .ref q5, .null]))], flW Γ 3 shX4 oc ac tc, [(q1, .inl (Γ.2.1 1, 8, .inl (fun _ => 0)))], [(q2, .inl (Γ.2.1 1, 8, .inl (fun _ => 0)))], [(q3, .inl (Γ.2.1 0, 8, .inl (fun _ => 0)))], [(q4, .inl (Γ.2.1 0, 8, .inl (fun _ => 0)))], [(q5, .inl (Γ.2.1 0, 8, .inl (fun _ => 0)))]] := Y
  refine lv_aload_n hx hb dX4_init_2_44 rfl (lv_at hl 0 rfl) ?_
  refine lv_bipush (v := 8) hx hb dX4_init_2_45 rfl ?_
  have hk := hw.1
  refine ar_new0 X Y (N := 8) (by decide) (by decide) (by decide) hk.1 hk.2 dX4_init_2_47 (fun q6 H Y => ?_)
  have Y : Wo Γ A s H locs [[(o, .inr (3, [.int 0, .ref q1, .ref q2, .ref q3, .ref q4, .ref q5, .null]))], flW Γ 3 shX4 oc ac tc, [(q1, .inl (Γ.2.1 1, 8, .inl (fun _ => 0)))], [(q2, .inl (Γ.2.1 1, 8, .inl (fun _ => 0)))], [(q3, .inl (Γ.2.1 0, 8, .inl (fun _ => 0)))], [(q4, .inl (Γ.2.1 0, 8, .inl (fun _ => 0)))], [(q5, .inl (Γ.2.1 0, 8, .inl (fun _ => 0)))], [(q6, .inl (Γ.2.1 0, 8, .inl (fun _ => 0)))]] := Y
  have hw := hw.2 q6
  refine ob_putF X Y 0 rfl fcX4 6 (by decide) (X.2.2.2.2.1 _ q324) rfl hnm rfl (by first | rfl | exact op_nar _ | exact op_narA _) (by first | rfl | exact op_fit _ | exact op_fitA _) (Nat.le_of_ble_eq_true rfl) dX4_init_2_49 (fun H locs Y => ?_)
  have Y : Wo Γ A s H locs [[(o, .inr (3, [.int 0, .ref q1, .ref q2, .ref q3, .ref q4, .ref q5, .ref q6]))], flW Γ 3 shX4 oc ac tc, [(q1, .inl (Γ.2.1 1, 8, .inl (fun _ => 0)))], [(q2, .inl (Γ.2.1 1, 8, .inl (fun _ => 0)))], [(q3, .inl (Γ.2.1 0, 8, .inl (fun _ => 0)))], [(q4, .inl (Γ.2.1 0, 8, .inl (fun _ => 0)))], [(q5, .inl (Γ.2.1 0, 8, .inl (fun _ => 0)))], [(q6, .inl (Γ.2.1 0, 8, .inl (fun _ => 0)))]] := Y
  refine lv_aload_n hx hb dX4_init_2_52 rfl (lv_at hl 0 rfl) ?_
  refine lv_aload_n hx hb dX4_init_2_53 rfl (lv_at hl 1 rfl) ?_
  refine fl_get X Y 1 rfl fcX4 0 rfl (by decide) (X.2.2.2.2.1 _ q303) rfl dX4_init_2_54 ?_
  refine ob_put X Y 0 rfl fcX4 0 (by decide) (X.2.2.2.2.1 _ q303) rfl rfl rfl (Nat.le_of_ble_eq_true rfl) dX4_init_2_57 (fun H locs Y => ?_)
  have Y : Wo Γ A s H locs [[(o, .inr (3, [.int (tc.1 0), .ref q1, .ref q2, .ref q3, .ref q4, .ref q5, .ref q6]))], flW Γ 3 shX4 oc ac tc, [(q1, .inl (Γ.2.1 1, 8, .inl (fun _ => 0)))], [(q2, .inl (Γ.2.1 1, 8, .inl (fun _ => 0)))], [(q3, .inl (Γ.2.1 0, 8, .inl (fun _ => 0)))], [(q4, .inl (Γ.2.1 0, 8, .inl (fun _ => 0)))], [(q5, .inl (Γ.2.1 0, 8, .inl (fun _ => 0)))], [(q6, .inl (Γ.2.1 0, 8, .inl (fun _ => 0)))]] := Y
  refine lv_aload_n hx hb dX4_init_2_60 rfl (lv_at hl 1 rfl) ?_
  refine fl_get X Y 1 rfl fcX4 1 rfl (by decide) (X.2.2.2.2.1 _ q307) rfl dX4_init_2_61 ?_
  refine lv_iconst (v := 0) hx hb dX4_init_2_64 rfl ?_
  refine lv_aload_n hx hb dX4_init_2_65 rfl (lv_at hl 0 rfl) ?_
  refine ob_get X Y 0 rfl fcX4 1 (by decide) (X.2.2.2.2.1 _ q307) rfl dX4_init_2_66 ?_
  refine lv_iconst (v := 0) hx hb dX4_init_2_69 rfl ?_
  refine lv_aload_n hx hb dX4_init_2_70 rfl (lv_at hl 0 rfl) ?_
  refine ob_get X Y 0 rfl fcX4 0 (by decide) (X.2.2.2.2.1 _ q303) rfl dX4_init_2_71 ?_
  obtain ⟨⟨w1, w2, w3, w4, w5, w6⟩, hw⟩ := hw
  refine za_cpy (t := 1) rfl rfl X Y (arAt_fl Y 1 rfl 1 (t := 1) rfl) (arAt_ar Y 2 (t := 1) rfl) q914 q773 q772 q148 hl.1 w1 w2 w3 w4 w5 w6 (Nat.le_of_ble_eq_true rfl) (Nat.le_of_ble_eq_true rfl) dX4_init_2_74 (fun H locs Y => ?_)
  have Y : Wo Γ A s H locs [[(o, .inr (3, [.int (tc.1 0), .ref q1, .ref q2, .ref q3, .ref q4, .ref q5, .ref q6]))], flW Γ 3 shX4 oc ac tc, [(q1, .inl (Γ.2.1 1, 8, .inl (va_cpy (tc.2.1 1) (fun _ => 0) (0 : Int32).toNatClampNeg (0 : Int32).toNatClampNeg (tc.1 0).toNatClampNeg)))], [(q2, .inl (Γ.2.1 1, 8, .inl (fun _ => 0)))], [(q3, .inl (Γ.2.1 0, 8, .inl (fun _ => 0)))], [(q4, .inl (Γ.2.1 0, 8, .inl (fun _ => 0)))], [(q5, .inl (Γ.2.1 0, 8, .inl (fun _ => 0)))], [(q6, .inl (Γ.2.1 0, 8, .inl (fun _ => 0)))]] := Y
  refine lv_aload_n hx hb dX4_init_2_77 rfl (lv_at hl 1 rfl) ?_
  refine fl_get X Y 1 rfl fcX4 2 rfl (by decide) (X.2.2.2.2.1 _ q311) rfl dX4_init_2_78 ?_
  refine lv_iconst (v := 0) hx hb dX4_init_2_81 rfl ?_
  refine lv_aload_n hx hb dX4_init_2_82 rfl (lv_at hl 0 rfl) ?_
  refine ob_get X Y 0 rfl fcX4 2 (by decide) (X.2.2.2.2.1 _ q311) rfl dX4_init_2_83 ?_
  refine lv_iconst (v := 0) hx hb dX4_init_2_86 rfl ?_
  refine lv_aload_n hx hb dX4_init_2_87 rfl (lv_at hl 0 rfl) ?_
  refine ob_get X Y 0 rfl fcX4 0 (by decide) (X.2.2.2.2.1 _ q303) rfl dX4_init_2_88 ?_
  obtain ⟨⟨w1, w2, w3, w4, w5, w6⟩, hw⟩ := hw
  refine za_cpy (t := 1) rfl rfl X Y (arAt_fl Y 1 rfl 2 (t := 1) rfl) (arAt_ar Y 3 (t := 1) rfl) q914 q773 q772 q148 hl.1 w1 w2 w3 w4 w5 w6 (Nat.le_of_ble_eq_true rfl) (Nat.le_of_ble_eq_true rfl) dX4_init_2_91 (fun H locs Y => ?_)
  have Y : Wo Γ A s H locs [[(o, .inr (3, [.int (tc.1 0), .ref q1, .ref q2, .ref q3, .ref q4, .ref q5, .ref q6]))], flW Γ 3 shX4 oc ac tc, [(q1, .inl (Γ.2.1 1, 8, .inl (va_cpy (tc.2.1 1) (fun _ => 0) (0 : Int32).toNatClampNeg (0 : Int32).toNatClampNeg (tc.1 0).toNatClampNeg)))], [(q2, .inl (Γ.2.1 1, 8, .inl (va_cpy (tc.2.1 2) (fun _ => 0) (0 : Int32).toNatClampNeg (0 : Int32).toNatClampNeg (tc.1 0).toNatClampNeg)))], [(q3, .inl (Γ.2.1 0, 8, .inl (fun _ => 0)))], [(q4, .inl (Γ.2.1 0, 8, .inl (fun _ => 0)))], [(q5, .inl (Γ.2.1 0, 8, .inl (fun _ => 0)))], [(q6, .inl (Γ.2.1 0, 8, .inl (fun _ => 0)))]] := Y
  refine lv_aload_n hx hb dX4_init_2_94 rfl (lv_at hl 1 rfl) ?_
  refine fl_get X Y 1 rfl fcX4 3 rfl (by decide) (X.2.2.2.2.1 _ q314) rfl dX4_init_2_95 ?_
  refine lv_iconst (v := 0) hx hb dX4_init_2_98 rfl ?_
  refine lv_aload_n hx hb dX4_init_2_99 rfl (lv_at hl 0 rfl) ?_
  refine ob_get X Y 0 rfl fcX4 3 (by decide) (X.2.2.2.2.1 _ q314) rfl dX4_init_2_100 ?_
  refine lv_iconst (v := 0) hx hb dX4_init_2_103 rfl ?_
  refine lv_aload_n hx hb dX4_init_2_104 rfl (lv_at hl 0 rfl) ?_
  refine ob_get X Y 0 rfl fcX4 0 (by decide) (X.2.2.2.2.1 _ q303) rfl dX4_init_2_105 ?_
  obtain ⟨⟨w1, w2, w3, w4, w5, w6⟩, hw⟩ := hw
  refine za_cpy (t := 0) rfl rfl X Y (arAt_fl Y 1 rfl 3 (t := 0) rfl) (arAt_ar Y 4 (t := 0) rfl) q914 q773 q772 q148 hl.1 w1 w2 w3 w4 w5 w6 (Nat.le_of_ble_eq_true rfl) (Nat.le_of_ble_eq_true rfl) dX4_init_2_108 (fun H locs Y => ?_)
  have Y : Wo Γ A s H locs [[(o, .inr (3, [.int (tc.1 0), .ref q1, .ref q2, .ref q3, .ref q4, .ref q5, .ref q6]))], flW Γ 3 shX4 oc ac tc, [(q1, .inl (Γ.2.1 1, 8, .inl (va_cpy (tc.2.1 1) (fun _ => 0) (0 : Int32).toNatClampNeg (0 : Int32).toNatClampNeg (tc.1 0).toNatClampNeg)))], [(q2, .inl (Γ.2.1 1, 8, .inl (va_cpy (tc.2.1 2) (fun _ => 0) (0 : Int32).toNatClampNeg (0 : Int32).toNatClampNeg (tc.1 0).toNatClampNeg)))], [(q3, .inl (Γ.2.1 0, 8, .inl (va_cpy (tc.2.1 3) (fun _ => 0) (0 : Int32).toNatClampNeg (0 : Int32).toNatClampNeg (tc.1 0).toNatClampNeg)))], [(q4, .inl (Γ.2.1 0, 8, .inl (fun _ => 0)))], [(q5, .inl (Γ.2.1 0, 8, .inl (fun _ => 0)))], [(q6, .inl (Γ.2.1 0, 8, .inl (fun _ => 0)))]] := Y
  refine lv_aload_n hx hb dX4_init_2_111 rfl (lv_at hl 1 rfl) ?_
  refine fl_get X Y 1 rfl fcX4 4 rfl (by decide) (X.2.2.2.2.1 _ q317) rfl dX4_init_2_112 ?_
  refine lv_iconst (v := 0) hx hb dX4_init_2_115 rfl ?_
  refine lv_aload_n hx hb dX4_init_2_116 rfl (lv_at hl 0 rfl) ?_
  refine ob_get X Y 0 rfl fcX4 4 (by decide) (X.2.2.2.2.1 _ q317) rfl dX4_init_2_117 ?_
  refine lv_iconst (v := 0) hx hb dX4_init_2_120 rfl ?_
  refine lv_aload_n hx hb dX4_init_2_121 rfl (lv_at hl 0 rfl) ?_
  refine ob_get X Y 0 rfl fcX4 0 (by decide) (X.2.2.2.2.1 _ q303) rfl dX4_init_2_122 ?_
  obtain ⟨⟨w1, w2, w3, w4, w5, w6⟩, hw⟩ := hw
  refine za_cpy (t := 0) rfl rfl X Y (arAt_fl Y 1 rfl 4 (t := 0) rfl) (arAt_ar Y 5 (t := 0) rfl) q914 q773 q772 q148 hl.1 w1 w2 w3 w4 w5 w6 (Nat.le_of_ble_eq_true rfl) (Nat.le_of_ble_eq_true rfl) dX4_init_2_125 (fun H locs Y => ?_)
  have Y : Wo Γ A s H locs [[(o, .inr (3, [.int (tc.1 0), .ref q1, .ref q2, .ref q3, .ref q4, .ref q5, .ref q6]))], flW Γ 3 shX4 oc ac tc, [(q1, .inl (Γ.2.1 1, 8, .inl (va_cpy (tc.2.1 1) (fun _ => 0) (0 : Int32).toNatClampNeg (0 : Int32).toNatClampNeg (tc.1 0).toNatClampNeg)))], [(q2, .inl (Γ.2.1 1, 8, .inl (va_cpy (tc.2.1 2) (fun _ => 0) (0 : Int32).toNatClampNeg (0 : Int32).toNatClampNeg (tc.1 0).toNatClampNeg)))], [(q3, .inl (Γ.2.1 0, 8, .inl (va_cpy (tc.2.1 3) (fun _ => 0) (0 : Int32).toNatClampNeg (0 : Int32).toNatClampNeg (tc.1 0).toNatClampNeg)))], [(q4, .inl (Γ.2.1 0, 8, .inl (va_cpy (tc.2.1 4) (fun _ => 0) (0 : Int32).toNatClampNeg (0 : Int32).toNatClampNeg (tc.1 0).toNatClampNeg)))], [(q5, .inl (Γ.2.1 0, 8, .inl (fun _ => 0)))], [(q6, .inl (Γ.2.1 0, 8, .inl (fun _ => 0)))]] := Y
  refine lv_aload_n hx hb dX4_init_2_128 rfl (lv_at hl 1 rfl) ?_
  refine fl_get X Y 1 rfl fcX4 5 rfl (by decide) (X.2.2.2.2.1 _ q320) rfl dX4_init_2_129 ?_
  refine lv_iconst (v := 0) hx hb dX4_init_2_132 rfl ?_
  refine lv_aload_n hx hb dX4_init_2_133 rfl (lv_at hl 0 rfl) ?_
  refine ob_get X Y 0 rfl fcX4 5 (by decide) (X.2.2.2.2.1 _ q320) rfl dX4_init_2_134 ?_
  refine lv_iconst (v := 0) hx hb dX4_init_2_137 rfl ?_
  refine lv_aload_n hx hb dX4_init_2_138 rfl (lv_at hl 0 rfl) ?_
  refine ob_get X Y 0 rfl fcX4 0 (by decide) (X.2.2.2.2.1 _ q303) rfl dX4_init_2_139 ?_
  obtain ⟨⟨w1, w2, w3, w4, w5, w6⟩, hw⟩ := hw
  refine za_cpy (t := 0) rfl rfl X Y (arAt_fl Y 1 rfl 5 (t := 0) rfl) (arAt_ar Y 6 (t := 0) rfl) q914 q773 q772 q148 hl.1 w1 w2 w3 w4 w5 w6 (Nat.le_of_ble_eq_true rfl) (Nat.le_of_ble_eq_true rfl) dX4_init_2_142 (fun H locs Y => ?_)
  have Y : Wo Γ A s H locs [[(o, .inr (3, [.int (tc.1 0), .ref q1, .ref q2, .ref q3, .ref q4, .ref q5, .ref q6]))], flW Γ 3 shX4 oc ac tc, [(q1, .inl (Γ.2.1 1, 8, .inl (va_cpy (tc.2.1 1) (fun _ => 0) (0 : Int32).toNatClampNeg (0 : Int32).toNatClampNeg (tc.1 0).toNatClampNeg)))], [(q2, .inl (Γ.2.1 1, 8, .inl (va_cpy (tc.2.1 2) (fun _ => 0) (0 : Int32).toNatClampNeg (0 : Int32).toNatClampNeg (tc.1 0).toNatClampNeg)))], [(q3, .inl (Γ.2.1 0, 8, .inl (va_cpy (tc.2.1 3) (fun _ => 0) (0 : Int32).toNatClampNeg (0 : Int32).toNatClampNeg (tc.1 0).toNatClampNeg)))], [(q4, .inl (Γ.2.1 0, 8, .inl (va_cpy (tc.2.1 4) (fun _ => 0) (0 : Int32).toNatClampNeg (0 : Int32).toNatClampNeg (tc.1 0).toNatClampNeg)))], [(q5, .inl (Γ.2.1 0, 8, .inl (va_cpy (tc.2.1 5) (fun _ => 0) (0 : Int32).toNatClampNeg (0 : Int32).toNatClampNeg (tc.1 0).toNatClampNeg)))], [(q6, .inl (Γ.2.1 0, 8, .inl (fun _ => 0)))]] := Y
  refine lv_aload_n hx hb dX4_init_2_145 rfl (lv_at hl 1 rfl) ?_
  refine fl_get X Y 1 rfl fcX4 6 rfl (by decide) (X.2.2.2.2.1 _ q324) rfl dX4_init_2_146 ?_
  refine lv_iconst (v := 0) hx hb dX4_init_2_149 rfl ?_
  refine lv_aload_n hx hb dX4_init_2_150 rfl (lv_at hl 0 rfl) ?_
  refine ob_get X Y 0 rfl fcX4 6 (by decide) (X.2.2.2.2.1 _ q324) rfl dX4_init_2_151 ?_
  refine lv_iconst (v := 0) hx hb dX4_init_2_154 rfl ?_
  refine lv_aload_n hx hb dX4_init_2_155 rfl (lv_at hl 0 rfl) ?_
  refine ob_get X Y 0 rfl fcX4 0 (by decide) (X.2.2.2.2.1 _ q303) rfl dX4_init_2_156 ?_
  obtain ⟨⟨w1, w2, w3, w4, w5, w6⟩, hw⟩ := hw
  refine za_cpy (t := 0) rfl rfl X Y (arAt_fl Y 1 rfl 6 (t := 0) rfl) (arAt_ar Y 7 (t := 0) rfl) q914 q773 q772 q148 hl.1 w1 w2 w3 w4 w5 w6 (Nat.le_of_ble_eq_true rfl) (Nat.le_of_ble_eq_true rfl) dX4_init_2_159 (fun H locs Y => ?_)
  have Y : Wo Γ A s H locs [[(o, .inr (3, [.int (tc.1 0), .ref q1, .ref q2, .ref q3, .ref q4, .ref q5, .ref q6]))], flW Γ 3 shX4 oc ac tc, [(q1, .inl (Γ.2.1 1, 8, .inl (va_cpy (tc.2.1 1) (fun _ => 0) (0 : Int32).toNatClampNeg (0 : Int32).toNatClampNeg (tc.1 0).toNatClampNeg)))], [(q2, .inl (Γ.2.1 1, 8, .inl (va_cpy (tc.2.1 2) (fun _ => 0) (0 : Int32).toNatClampNeg (0 : Int32).toNatClampNeg (tc.1 0).toNatClampNeg)))], [(q3, .inl (Γ.2.1 0, 8, .inl (va_cpy (tc.2.1 3) (fun _ => 0) (0 : Int32).toNatClampNeg (0 : Int32).toNatClampNeg (tc.1 0).toNatClampNeg)))], [(q4, .inl (Γ.2.1 0, 8, .inl (va_cpy (tc.2.1 4) (fun _ => 0) (0 : Int32).toNatClampNeg (0 : Int32).toNatClampNeg (tc.1 0).toNatClampNeg)))], [(q5, .inl (Γ.2.1 0, 8, .inl (va_cpy (tc.2.1 5) (fun _ => 0) (0 : Int32).toNatClampNeg (0 : Int32).toNatClampNeg (tc.1 0).toNatClampNeg)))], [(q6, .inl (Γ.2.1 0, 8, .inl (va_cpy (tc.2.1 6) (fun _ => 0) (0 : Int32).toNatClampNeg (0 : Int32).toNatClampNeg (tc.1 0).toNatClampNeg)))]] := Y
  have Y : Wo Γ A s H locs [[(o, .inr (3, [.int (tc.1 0), .ref q1, .ref q2, .ref q3, .ref q4, .ref q5, .ref q6]))], [(q1, .inl (Γ.2.1 1, 8, .inl (va_cpy (tc.2.1 1) (fun _ => 0) (0 : Int32).toNatClampNeg (0 : Int32).toNatClampNeg (tc.1 0).toNatClampNeg)))], [(q2, .inl (Γ.2.1 1, 8, .inl (va_cpy (tc.2.1 2) (fun _ => 0) (0 : Int32).toNatClampNeg (0 : Int32).toNatClampNeg (tc.1 0).toNatClampNeg)))], [(q3, .inl (Γ.2.1 0, 8, .inl (va_cpy (tc.2.1 3) (fun _ => 0) (0 : Int32).toNatClampNeg (0 : Int32).toNatClampNeg (tc.1 0).toNatClampNeg)))], [(q4, .inl (Γ.2.1 0, 8, .inl (va_cpy (tc.2.1 4) (fun _ => 0) (0 : Int32).toNatClampNeg (0 : Int32).toNatClampNeg (tc.1 0).toNatClampNeg)))], [(q5, .inl (Γ.2.1 0, 8, .inl (va_cpy (tc.2.1 5) (fun _ => 0) (0 : Int32).toNatClampNeg (0 : Int32).toNatClampNeg (tc.1 0).toNatClampNeg)))], [(q6, .inl (Γ.2.1 0, 8, .inl (va_cpy (tc.2.1 6) (fun _ => 0) (0 : Int32).toNatClampNeg (0 : Int32).toNatClampNeg (tc.1 0).toNatClampNeg)))], flW Γ 3 shX4 oc ac tc] := Y.perm [0, 2, 3, 4, 5, 6, 7, 1] rfl rfl
  have Y : Wo Γ A s H locs [flW Γ 3 shX4 o (adL [0, q1, q2, q3, q4, q5, q6]) (numL [tc.1 0, 0, 0, 0, 0, 0, 0], arrL [(fun _ => 0), (va_cpy (tc.2.1 1) (fun _ => 0) (0 : Int32).toNatClampNeg (0 : Int32).toNatClampNeg (tc.1 0).toNatClampNeg), (va_cpy (tc.2.1 2) (fun _ => 0) (0 : Int32).toNatClampNeg (0 : Int32).toNatClampNeg (tc.1 0).toNatClampNeg), (va_cpy (tc.2.1 3) (fun _ => 0) (0 : Int32).toNatClampNeg (0 : Int32).toNatClampNeg (tc.1 0).toNatClampNeg), (va_cpy (tc.2.1 4) (fun _ => 0) (0 : Int32).toNatClampNeg (0 : Int32).toNatClampNeg (tc.1 0).toNatClampNeg), (va_cpy (tc.2.1 5) (fun _ => 0) (0 : Int32).toNatClampNeg (0 : Int32).toNatClampNeg (tc.1 0).toNatClampNeg), (va_cpy (tc.2.1 6) (fun _ => 0) (0 : Int32).toNatClampNeg (0 : Int32).toNatClampNeg (tc.1 0).toNatClampNeg)], 0), flW Γ 3 shX4 oc ac tc] := Y.fl rfl
  subst hQ
  exact re_v X Y hr hlk (q1, q2, q3, q4, q5, q6, (numL [tc.1 0, 0, 0, 0, 0, 0, 0], arrL [(fun _ => 0), (va_cpy (tc.2.1 1) (fun _ => 0) (0 : Int32).toNatClampNeg (0 : Int32).toNatClampNeg (tc.1 0).toNatClampNeg), (va_cpy (tc.2.1 2) (fun _ => 0) (0 : Int32).toNatClampNeg (0 : Int32).toNatClampNeg (tc.1 0).toNatClampNeg), (va_cpy (tc.2.1 3) (fun _ => 0) (0 : Int32).toNatClampNeg (0 : Int32).toNatClampNeg (tc.1 0).toNatClampNeg), (va_cpy (tc.2.1 4) (fun _ => 0) (0 : Int32).toNatClampNeg (0 : Int32).toNatClampNeg (tc.1 0).toNatClampNeg), (va_cpy (tc.2.1 5) (fun _ => 0) (0 : Int32).toNatClampNeg (0 : Int32).toNatClampNeg (tc.1 0).toNatClampNeg), (va_cpy (tc.2.1 6) (fun _ => 0) (0 : Int32).toNatClampNeg (0 : Int32).toNatClampNeg (tc.1 0).toNatClampNeg)], 0)) rfl hw (hk.1) (hk.2) dX4_init_2_162
def wpX4_require (mc ms : Nat) (K : Prop) (X1 : Prop) (oc : Nat) (ac : Nat → Nat) (tc : flT) (a1 : Int32) : Prop := ∃ mc1 ms2 : Nat, (0 + mc1 ≤ mc ∧ 0 + ms2 ≤ ms) ∧ wpX1_requireIndex mc1 ms2 (K) (X1) a1 (tc.1 0)
abbrev rmX4_require (mc ms : Nat) : Room := { frames := 8, cells := mc, slots := ms, locals := 114 }
theorem hdX4_require : yX4_require.cls ≠ "java/lang/invoke/MethodHandle" ∧ yX4_require.cls ≠ "java/lang/invoke/VarHandle" ∧ (parseMethodDescriptor yX4_require.desc).map (fun d => d.parameters.length) = some 1 := by decide +kernel
theorem hpX4_require : yX4_require.name ≠ "<init>" ∧ (parseMethodDescriptor yX4_require.desc).map (fun d => d.parameters.length) = some 1 := by decide +kernel
theorem huX4_require : RX4 ≠ "java/lang/invoke/MethodHandle" ∧ RX4 ≠ "java/lang/invoke/VarHandle" ∧ (parseMethodDescriptor yX4_require.desc).map (fun d => d.parameters.length) = some 1 := by decide +kernel
set_option maxHeartbeats 4000000 in
theorem mtX4_require {Γ : gT} {l : Launch} {mc ms : Nat} {oc : Nat} {ac : Nat → Nat} {tc : flT} {a1 : Int32} {K : Prop} {X1 : Prop} (hlT : l.stackTraces = false) (hw : wpX4_require mc ms K X1 oc ac tc a1) : xV Γ l yX4_require (ws_ yX4_require cX4_require 2 none) (rmX4_require mc ms) (eN Γ) [.ref oc, .int a1] [flW Γ 3 shX4 oc ac tc] (fun u : Unit => [flW Γ 3 shX4 oc ac tc]) (fun _ => K) (fun (E : String) (q : Nat) (bs : bW) => (E = "java/lang/IndexOutOfBoundsException" ∧ bs = [flW Γ 3 shX4 oc ac tc] ∧ X1)) := by
  refine xV_of (by decide +kernel) (Nat.le_of_ble_eq_true rfl) ?_
  intro p e s m args below meth c ls A Q hQ X hr hlk hnm htb hE Y hl
  have hx := X.1
  have hb := X.2.1
  have hl : lv_has ls 2 [(0, .ref oc), (1, .int a1)] := hl
  unfold wpX4_require at hw
  obtain ⟨H, hH⟩ : ∃ H : Heap, H = s.heap := ⟨_, rfl⟩
  obtain ⟨locs, hlo⟩ : ∃ locs : List Loc, locs = [] := ⟨_, rfl⟩
  rw [← hH, ← hlo] at Y
  rw [← hH, ← hlo]
  have hk : 0 ≤ mc ∧ 0 ≤ ms := ⟨Nat.zero_le _, Nat.zero_le _⟩
  refine lv_iload_n hx hb dX4_require_0 rfl (lv_at hl 1 rfl) ?_
  refine lv_aload_n hx hb dX4_require_1 rfl (lv_at hl 0 rfl) ?_
  refine fl_get X Y 0 rfl fcX4 0 rfl (by decide) (X.2.2.2.2.1 _ q303) rfl dX4_require_2 ?_
  obtain ⟨mc1, ms2, hk2, hw⟩ := hw
  refine xv_MV X Y [] [0] rfl rfl rfl eN_bl (fun U hU hW => ((eN_tr.at X hE Y [] [0] rfl rfl) U hU hW)) (mtX1_requireIndex (Γ := Γ) (l := l) (mc := mc1) (ms := ms2) hlT hw) q1679 q1680 q131 q1681 hdX1_requireIndex ⟨Nat.le_of_ble_eq_true rfl, Nat.le_of_ble_eq_true rfl⟩ rfl hl.1 rfl (Nat.le_of_ble_eq_true rfl) dX4_require_5 hk2 (fun  u H locs hw Y => ?_) (fun E q b1 H locs hX hce Y => ?_)
  · have hk : 0 + mc1 ≤ mc ∧ 0 + ms2 ≤ ms := hk2
    have Y : Wo Γ A s H locs [flW Γ 3 shX4 oc ac tc] := Y
    subst hQ
    exact vx_ret (re_v X Y hr hlk () rfl hw (hk.1) (hk.2) dX4_require_8)
  · have hk : 0 + mc1 ≤ mc ∧ 0 + ms2 ≤ ms := hk2
    obtain ⟨q3, rfl⟩ : ∃ z, z = q := ⟨_, rfl⟩
    obtain ⟨rfl, rfl, hw⟩ := hX
    have Y : Wo Γ A s H locs [flW Γ 3 shX4 oc ac tc] := Y
    subst hQ
    exact xo_out (E := "java/lang/IndexOutOfBoundsException") X Y htb hlk hce (fun z hz => nomatch hz) ⟨rfl, rfl, hw⟩ (hk.1) (hk.2)
def wpX4_isForwarder (Γ : gT) (K : (Int32) → Prop)  (oc : Nat) (ac : Nat → Nat) (tc : flT) (a1 : Int32) : Prop := vp_in a1 8 ∧ (wpJ7_indexOf (fun r1 => ((r1 < 0 → (K 0)) ∧ (¬ r1 < 0 → (K 1))))  (Γ.2.2 120) (Γ.2.2 220) 2 (fun j => ([102, 100] : List Int32).getD j 0) (tc.2.1 1 a1.toNatClampNeg))
abbrev rmX4_isForwarder : Room := { frames := 4, cells := 0, slots := 0, locals := 91 }
theorem hdX4_isForwarder : yX4_isForwarder.cls ≠ "java/lang/invoke/MethodHandle" ∧ yX4_isForwarder.cls ≠ "java/lang/invoke/VarHandle" ∧ (parseMethodDescriptor yX4_isForwarder.desc).map (fun d => d.parameters.length) = some 1 := by decide +kernel
theorem hpX4_isForwarder : yX4_isForwarder.name ≠ "<init>" ∧ (parseMethodDescriptor yX4_isForwarder.desc).map (fun d => d.parameters.length) = some 1 := by decide +kernel
theorem huX4_isForwarder : RX4 ≠ "java/lang/invoke/MethodHandle" ∧ RX4 ≠ "java/lang/invoke/VarHandle" ∧ (parseMethodDescriptor yX4_isForwarder.desc).map (fun d => d.parameters.length) = some 1 := by decide +kernel
set_option maxHeartbeats 4000000 in
theorem mtX4_isForwarder {Γ : gT} {l : Launch} {oc : Nat} {ac : Nat → Nat} {tc : flT} {a1 : Int32} {K : (Int32) → Prop}  (hw : wpX4_isForwarder Γ K  oc ac tc a1) : cI Γ l yX4_isForwarder (ws_ yX4_isForwarder cX4_isForwarder 2 (some .boolean)) rmX4_isForwarder (eN Γ) [.ref oc, .int a1] [flW Γ 3 shX4 oc ac tc] (fun u : Unit => [flW Γ 3 shX4 oc ac tc]) (fun r u => K r ) := by
  refine cI_of (by decide +kernel) (Nat.le_of_ble_eq_true rfl) ?_
  intro p e s m args below meth c ls A Q hQ X hr hlk hnm hE Y hl
  have hx := X.1
  have hb := X.2.1
  have hl : lv_has ls 2 [(0, .ref oc), (1, .int a1)] := hl
  unfold wpX4_isForwarder at hw
  obtain ⟨H, hH⟩ : ∃ H : Heap, H = s.heap := ⟨_, rfl⟩
  obtain ⟨locs, hlo⟩ : ∃ locs : List Loc, locs = [] := ⟨_, rfl⟩
  rw [← hH, ← hlo] at Y
  rw [← hH, ← hlo]
  refine st_ldc X hE 20 rfl dX4_isForwarder_0 ?_
  refine lv_aload_n hx hb dX4_isForwarder_2 rfl (lv_at hl 0 rfl) ?_
  refine fl_get X Y 0 rfl fcX4 1 rfl (by decide) (X.2.2.2.2.1 _ q307) rfl dX4_isForwarder_3 ?_
  refine lv_iload_n hx hb dX4_isForwarder_6 rfl (lv_at hl 1 rfl) ?_
  refine fl_ald1 X Y 0 rfl 1 rfl hw.1 dX4_isForwarder_7 ?_
  have hw := hw.2
  refine cv_VI X Y [] [0] rfl rfl rfl (eA_bl eR_bl eN_bl) (fun U hU hW => ⟨((eR_tr.at X (eN_str hE 20 rfl) Y [] [0] rfl rfl) U hU hW), ((eN_tr.at X hE Y [] [0] rfl rfl) U hU hW)⟩) (mtJ7_indexOf (Γ := Γ) (l := l) hw) (lw_V q505 q506 q507 q141 q508) ⟨rfl, hdJ7_indexOf⟩ ⟨Nat.le_of_ble_eq_true rfl, Nat.le_of_ble_eq_true rfl⟩ (ro_recv Y (eN_str hE 20 rfl)) rfl hl.1 rfl (Nat.le_of_ble_eq_true rfl) dX4_isForwarder_8 ⟨Nat.le_of_ble_eq_true rfl, Nat.le_of_ble_eq_true rfl⟩ (fun r1 u H locs hw Y => ?_)
  have Y : Wo Γ A s H locs [flW Γ 3 shX4 oc ac tc] := Y
  refine lv_if_lt (tgt := 18) hx hb dX4_isForwarder_11 (by decide) (fun hc => ?_) (fun hc => ?_)
  · have hw := hw.1 hc
    refine lv_iconst (v := 0) hx hb dX4_isForwarder_18 rfl ?_
    subst hQ
    exact re_i X Y hr hlk () rfl rfl hw (Nat.le_of_ble_eq_true rfl) (Nat.le_of_ble_eq_true rfl) dX4_isForwarder_19
  · have hw := hw.2 hc
    refine lv_iconst (v := 1) hx hb dX4_isForwarder_14 rfl ?_
    refine lv_goto (tgt := 19) hx hb dX4_isForwarder_15 (by decide) ?_
    subst hQ
    exact re_i X Y hr hlk () rfl rfl hw (Nat.le_of_ble_eq_true rfl) (Nat.le_of_ble_eq_true rfl) dX4_isForwarder_19
def wpX4_isBelow (K : (Int32) → Prop)  (oc : Nat) (ac : Nat → Nat) (tc : flT) (a1 : Int32) (a2 : Int32) : Prop := vp_in a1 8 ∧ (∃ I1 : Nat → (Int32) → Prop, (∃ n, I1 n (tc.2.1 6 a1.toNatClampNeg)) ∧ ∀ (n2 : Nat) (x3 : Int32), I1 n2 x3 → (∃ J4 : Prop, (J4 → ((x3 = a2 → (K 1)) ∧ (¬ x3 = a2 → (K 0)))) ∧ ((x3 = (-1) → (J4)) ∧ (¬ x3 = (-1) → ((x3 = a2 → (J4)) ∧ (¬ x3 = a2 → (vp_in x3 8 ∧ (∃ n5, n5 < n2 ∧ I1 n5 (tc.2.1 6 x3.toNatClampNeg)))))))))
abbrev rmX4_isBelow : Room := { frames := 0, cells := 0, slots := 0, locals := 0 }
theorem hdX4_isBelow : yX4_isBelow.cls ≠ "java/lang/invoke/MethodHandle" ∧ yX4_isBelow.cls ≠ "java/lang/invoke/VarHandle" ∧ (parseMethodDescriptor yX4_isBelow.desc).map (fun d => d.parameters.length) = some 2 := by decide +kernel
theorem hpX4_isBelow : yX4_isBelow.name ≠ "<init>" ∧ (parseMethodDescriptor yX4_isBelow.desc).map (fun d => d.parameters.length) = some 2 := by decide +kernel
theorem huX4_isBelow : RX4 ≠ "java/lang/invoke/MethodHandle" ∧ RX4 ≠ "java/lang/invoke/VarHandle" ∧ (parseMethodDescriptor yX4_isBelow.desc).map (fun d => d.parameters.length) = some 2 := by decide +kernel
set_option maxHeartbeats 4000000 in
theorem mtX4_isBelow {Γ : gT} {l : Launch} {oc : Nat} {ac : Nat → Nat} {tc : flT} {a1 : Int32} {a2 : Int32} {K : (Int32) → Prop}  (hw : wpX4_isBelow K  oc ac tc a1 a2) : cI Γ l yX4_isBelow (ws_ yX4_isBelow cX4_isBelow 4 (some .boolean)) rmX4_isBelow E0 [.ref oc, .int a1, .int a2] [flW Γ 3 shX4 oc ac tc] (fun u : Unit => [flW Γ 3 shX4 oc ac tc]) (fun r u => K r ) := by
  refine cI_of (by decide +kernel) (Nat.le_of_ble_eq_true rfl) ?_
  intro p e s m args below meth c ls A Q hQ X hr hlk hnm hE Y hl
  have hx := X.1
  have hb := X.2.1
  have hl : lv_has ls 4 [(0, .ref oc), (1, .int a1), (2, .int a2)] := hl
  unfold wpX4_isBelow at hw
  obtain ⟨H, hH⟩ : ∃ H : Heap, H = s.heap := ⟨_, rfl⟩
  obtain ⟨locs, hlo⟩ : ∃ locs : List Loc, locs = [] := ⟨_, rfl⟩
  rw [← hH, ← hlo] at Y
  rw [← hH, ← hlo]
  refine lv_aload_n hx hb dX4_isBelow_0 rfl (lv_at hl 0 rfl) ?_
  refine fl_get X Y 0 rfl fcX4 6 rfl (by decide) (X.2.2.2.2.1 _ q324) rfl dX4_isBelow_1 ?_
  refine lv_iload_n hx hb dX4_isBelow_4 rfl (lv_at hl 1 rfl) ?_
  refine fl_ald0 X Y 0 rfl 6 rfl hw.1 dX4_isBelow_5 ?_
  have hw := hw.2
  refine lv_istore_n (lv' := [(3, .int (tc.2.1 6 a1.toNatClampNeg)), (0, .ref oc), (1, .int a1), (2, .int a2)]) hx hb dX4_isBelow_6 rfl hl (by decide) rfl (fun ls hl => ?_)
  obtain ⟨I1, hw0, hwI⟩ := hw
  have hI1 : ∀ (n2 : Nat) (x3 : Int32) (H : Heap) (locs : List Loc) (ls : Array Slot), I1 n2 x3 → Wo Γ A s H locs [flW Γ 3 shX4 oc ac tc] → lv_has ls 4 [(0, .ref oc), (2, .int a2), (3, .int x3)] → W p l e rmX4_isBelow s m args below meth c H locs 0 0 Q (F0 m 7 ls []) := by
    intro n2
    induction n2 using Nat.strongRecOn with
    | ind n2 ihn2 =>
      intro x3 H locs ls hw Y hl
      have hw := hwI n2 x3 hw
      refine lv_iload_n hx hb dX4_isBelow_7 rfl (lv_at hl 2 rfl) ?_
      refine lv_iconst (v := (-1)) hx hb dX4_isBelow_8 rfl ?_
      obtain ⟨J4, hwR, hw⟩ := hw
      have hJ4 : ∀ (H : Heap) (locs : List Loc) (ls : Array Slot), J4  → Wo Γ A s H locs [flW Γ 3 shX4 oc ac tc] → lv_has ls 4 [(2, .int a2), (3, .int x3)] → W p l e rmX4_isBelow s m args below meth c H locs 0 0 Q (F0 m 27 ls []) := by
        intro  H locs ls hw Y hl
        have hw := hwR  hw
        refine lv_iload_n hx hb dX4_isBelow_27 rfl (lv_at hl 1 rfl) ?_
        refine lv_iload_n hx hb dX4_isBelow_28 rfl (lv_at hl 0 rfl) ?_
        refine lv_icmp_ne (tgt := 36) hx hb dX4_isBelow_29 (by decide) (fun hc => ?_) (fun hc => ?_)
        · have hw := hw.2 hc
          refine lv_iconst (v := 0) hx hb dX4_isBelow_36 rfl ?_
          subst hQ
          exact re_i X Y hr hlk () rfl rfl hw (Nat.le_of_ble_eq_true rfl) (Nat.le_of_ble_eq_true rfl) dX4_isBelow_37
        · have hw := hw.1 hc
          refine lv_iconst (v := 1) hx hb dX4_isBelow_32 rfl ?_
          refine lv_goto (tgt := 37) hx hb dX4_isBelow_33 (by decide) ?_
          subst hQ
          exact re_i X Y hr hlk () rfl rfl hw (Nat.le_of_ble_eq_true rfl) (Nat.le_of_ble_eq_true rfl) dX4_isBelow_37
      refine lv_icmp_eq (tgt := 27) hx hb dX4_isBelow_9 (by decide) (fun hc => ?_) (fun hc => ?_)
      · have hw := hw.1 hc
        exact hJ4  H locs ls hw Y (lv_sub hl [1, 2] rfl)
      · have hw := hw.2 hc
        refine lv_iload_n hx hb dX4_isBelow_12 rfl (lv_at hl 2 rfl) ?_
        refine lv_iload_n hx hb dX4_isBelow_13 rfl (lv_at hl 1 rfl) ?_
        refine lv_icmp_eq (tgt := 27) hx hb dX4_isBelow_14 (by decide) (fun hc => ?_) (fun hc => ?_)
        · have hw := hw.1 hc
          exact hJ4  H locs ls hw Y (lv_sub hl [1, 2] rfl)
        · have hw := hw.2 hc
          refine lv_aload_n hx hb dX4_isBelow_17 rfl (lv_at hl 0 rfl) ?_
          refine fl_get X Y 0 rfl fcX4 6 rfl (by decide) (X.2.2.2.2.1 _ q324) rfl dX4_isBelow_18 ?_
          refine lv_iload_n hx hb dX4_isBelow_21 rfl (lv_at hl 2 rfl) ?_
          refine fl_ald0 X Y 0 rfl 6 rfl hw.1 dX4_isBelow_22 ?_
          have hw := hw.2
          refine lv_istore_n (lv' := [(3, .int (tc.2.1 6 x3.toNatClampNeg)), (0, .ref oc), (2, .int a2)]) hx hb dX4_isBelow_23 rfl hl (by decide) rfl (fun ls hl => ?_)
          refine lv_goto (tgt := 7) hx hb dX4_isBelow_24 (by decide) ?_
          obtain ⟨n5, hlt, hw⟩ := hw
          exact ihn2 n5 hlt (tc.2.1 6 x3.toNatClampNeg) H locs ls hw Y (lv_sub hl [1, 2, 0] rfl)
  obtain ⟨n0, hw0⟩ := hw0
  exact hI1 n0 (tc.2.1 6 a1.toNatClampNeg) H locs ls hw0 Y (lv_sub hl [1, 3, 0] rfl)
def wpX4_below (K : (Int32) → Prop)  (oc : Nat) (ac : Nat → Nat) (tc : flT) (a1 : Int32) : Prop := ∃ I1 : Nat → (Int32) → (Int32) → Prop, (∃ n, I1 n 0 0) ∧ ∀ (n2 : Nat) (x3 : Int32) (x4 : Int32), I1 n2 x3 x4 → (((tc.1 0) ≤ x4 → (K x3)) ∧ (¬ (tc.1 0) ≤ x4 → (wpX4_isBelow (fun r5 => (∃ J6 : (Int32) → Prop, (∀ (x7 : Int32), J6 x7 → (∃ n8, n8 < n2 ∧ I1 n8 (x3 + x7) (x4 + 1))) ∧ ((r5 = 0 → (J6 0)) ∧ (¬ r5 = 0 → (J6 1)))))  oc ac tc x4 a1)))
abbrev rmX4_below : Room := { frames := 1, cells := 0, slots := 0, locals := 23 }
theorem hdX4_below : yX4_below.cls ≠ "java/lang/invoke/MethodHandle" ∧ yX4_below.cls ≠ "java/lang/invoke/VarHandle" ∧ (parseMethodDescriptor yX4_below.desc).map (fun d => d.parameters.length) = some 1 := by decide +kernel
theorem hpX4_below : yX4_below.name ≠ "<init>" ∧ (parseMethodDescriptor yX4_below.desc).map (fun d => d.parameters.length) = some 1 := by decide +kernel
theorem huX4_below : RX4 ≠ "java/lang/invoke/MethodHandle" ∧ RX4 ≠ "java/lang/invoke/VarHandle" ∧ (parseMethodDescriptor yX4_below.desc).map (fun d => d.parameters.length) = some 1 := by decide +kernel
set_option maxHeartbeats 4000000 in
theorem mtX4_below {Γ : gT} {l : Launch} {oc : Nat} {ac : Nat → Nat} {tc : flT} {a1 : Int32} {K : (Int32) → Prop}  (hw : wpX4_below K  oc ac tc a1) : cI Γ l yX4_below (ws_ yX4_below cX4_below 4 (some .int)) rmX4_below E0 [.ref oc, .int a1] [flW Γ 3 shX4 oc ac tc] (fun u : Unit => [flW Γ 3 shX4 oc ac tc]) (fun r u => K r ) := by
  refine cI_of (by decide +kernel) (Nat.le_of_ble_eq_true rfl) ?_
  intro p e s m args below meth c ls A Q hQ X hr hlk hnm hE Y hl
  have hx := X.1
  have hb := X.2.1
  have hl : lv_has ls 4 [(0, .ref oc), (1, .int a1)] := hl
  unfold wpX4_below at hw
  obtain ⟨H, hH⟩ : ∃ H : Heap, H = s.heap := ⟨_, rfl⟩
  obtain ⟨locs, hlo⟩ : ∃ locs : List Loc, locs = [] := ⟨_, rfl⟩
  rw [← hH, ← hlo] at Y
  rw [← hH, ← hlo]
  refine lv_iconst (v := 0) hx hb dX4_below_0 rfl ?_
  refine lv_istore_n (lv' := [(2, .int 0), (0, .ref oc), (1, .int a1)]) hx hb dX4_below_1 rfl hl (by decide) rfl (fun ls hl => ?_)
  refine lv_iconst (v := 0) hx hb dX4_below_2 rfl ?_
  refine lv_istore_n (lv' := [(3, .int 0), (2, .int 0), (0, .ref oc), (1, .int a1)]) hx hb dX4_below_3 rfl hl (by decide) rfl (fun ls hl => ?_)
  obtain ⟨I1, hw0, hwI⟩ := hw
  have hI1 : ∀ (n2 : Nat) (x3 : Int32) (x4 : Int32) (H : Heap) (locs : List Loc) (ls : Array Slot), I1 n2 x3 x4 → Wo Γ A s H locs [flW Γ 3 shX4 oc ac tc] → lv_has ls 4 [(0, .ref oc), (1, .int a1), (2, .int x3), (3, .int x4)] → W p l e rmX4_below s m args below meth c H locs 0 0 Q (F0 m 4 ls []) := by
    intro n2
    induction n2 using Nat.strongRecOn with
    | ind n2 ihn2 =>
      intro x3 x4 H locs ls hw Y hl
      have hw := hwI n2 x3 x4 hw
      refine lv_iload_n hx hb dX4_below_4 rfl (lv_at hl 3 rfl) ?_
      refine lv_aload_n hx hb dX4_below_5 rfl (lv_at hl 0 rfl) ?_
      refine fl_get X Y 0 rfl fcX4 0 rfl (by decide) (X.2.2.2.2.1 _ q303) rfl dX4_below_6 ?_
      refine lv_icmp_ge (tgt := 35) hx hb dX4_below_9 (by decide) (fun hc => ?_) (fun hc => ?_)
      · have hw := hw.1 hc
        refine lv_iload_n hx hb dX4_below_35 rfl (lv_at hl 2 rfl) ?_
        subst hQ
        exact re_i X Y hr hlk () rfl rfl hw (Nat.le_of_ble_eq_true rfl) (Nat.le_of_ble_eq_true rfl) dX4_below_36
      · have hw := hw.2 hc
        refine lv_iload_n hx hb dX4_below_12 rfl (lv_at hl 2 rfl) ?_
        refine lv_aload_n hx hb dX4_below_13 rfl (lv_at hl 0 rfl) ?_
        refine lv_iload_n hx hb dX4_below_14 rfl (lv_at hl 3 rfl) ?_
        refine lv_iload_n hx hb dX4_below_15 rfl (lv_at hl 1 rfl) ?_
        refine cv_VI X Y [0] [] rfl rfl rfl E0_bl (fun _ _ _ => trivial) (mtX4_isBelow (Γ := Γ) (l := l) hw) (lw_V q1710 q1711 q1712 q143 q1713) ⟨rfl, hdX4_isBelow⟩ ⟨Nat.le_of_ble_eq_true rfl, Nat.le_of_ble_eq_true rfl⟩ (ob_cell X Y (b := 0) rfl List.mem_cons_self fcX4) rfl hl.1 rfl (Nat.le_of_ble_eq_true rfl) dX4_below_16 ⟨Nat.le_of_ble_eq_true rfl, Nat.le_of_ble_eq_true rfl⟩ (fun r5 u H locs hw Y => ?_)
        have Y : Wo Γ A s H locs [flW Γ 3 shX4 oc ac tc] := Y
        obtain ⟨J6, hwR, hw⟩ := hw
        have hJ6 : ∀ (x7 : Int32) (H : Heap) (locs : List Loc) (ls : Array Slot), J6 x7 → Wo Γ A s H locs [flW Γ 3 shX4 oc ac tc] → lv_has ls 4 [(0, .ref oc), (1, .int a1), (3, .int x4)] → W p l e rmX4_below s m args below meth c H locs 0 0 Q (F0 m 27 ls [.int x7, .int x3]) := by
          intro x7 H locs ls hw Y hl
          have hw := hwR x7 hw
          refine lv_iadd hx hb dX4_below_27 ?_
          refine lv_istore_n (lv' := [(2, .int (x3 + x7)), (0, .ref oc), (1, .int a1), (3, .int x4)]) hx hb dX4_below_28 rfl hl (by decide) rfl (fun ls hl => ?_)
          refine lv_iinc (v := x4 + 1) (lv' := [(3, .int (x4 + 1)), (2, .int (x3 + x7)), (0, .ref oc), (1, .int a1)]) hx hb dX4_below_29 hl (k := 3) rfl rfl (by decide) rfl (fun ls hl => ?_)
          refine lv_goto (tgt := 4) hx hb dX4_below_32 (by decide) ?_
          obtain ⟨n8, hlt, hw⟩ := hw
          exact ihn2 n8 hlt (x3 + x7) (x4 + 1) H locs ls hw Y (lv_sub hl [2, 3, 1, 0] rfl)
        refine lv_if_eq (tgt := 26) hx hb dX4_below_19 (by decide) (fun hc => ?_) (fun hc => ?_)
        · have hw := hw.1 hc
          refine lv_iconst (v := 0) hx hb dX4_below_26 rfl ?_
          exact hJ6 0 H locs ls hw Y (lv_sub hl [0, 1, 3] rfl)
        · have hw := hw.2 hc
          refine lv_iconst (v := 1) hx hb dX4_below_22 rfl ?_
          refine lv_goto (tgt := 27) hx hb dX4_below_23 (by decide) ?_
          exact hJ6 1 H locs ls hw Y (lv_sub hl [0, 1, 3] rfl)
  obtain ⟨n0, hw0⟩ := hw0
  exact hI1 n0 0 0 H locs ls hw0 Y (lv_sub hl [2, 3, 1, 0] rfl)
def wpX5_init (mc ms : Nat) (K : (Nat) → (Nat) → (Nat) → (Nat) → (Nat) → (flT) → Prop)  (o : Nat) (oc : Nat) (ac : Nat → Nat) (tc : flT) : Prop := (0 + 1 ≤ mc ∧ 0 + 8 ≤ ms) ∧ ∀ q1 : Nat, (((0 + 1) + 1 ≤ mc ∧ (0 + 8) + 8 ≤ ms) ∧ ∀ q2 : Nat, (((0 + 1 + 1) + 1 ≤ mc ∧ (0 + 8 + 8) + 8 ≤ ms) ∧ ∀ q3 : Nat, (((0 + 1 + 1 + 1) + 1 ≤ mc ∧ (0 + 8 + 8 + 8) + 8 ≤ ms) ∧ ∀ q4 : Nat, (((0 + 1 + 1 + 1 + 1) + 1 ≤ mc ∧ (0 + 8 + 8 + 8 + 8) + 48 ≤ ms) ∧ ∀ q5 : Nat, (K q1 q2 q3 q4 q5 (numL [0, 0, 0, 0, 0, 0, 0, 0, 0, 0], arrL [(fun _ => 0), (fun _ => 0), (fun _ => 0), (fun _ => 0), (fun _ => 0), (fun _ => 0), (fun _ => 0), (fun _ => 0), (fun _ => 0), (fun _ => 0)], 0))))))
abbrev rmX5_init (mc ms : Nat) : Room := { frames := 1, cells := mc, slots := ms, locals := 20 }
theorem hdX5_init : yX5_init.cls ≠ "java/lang/invoke/MethodHandle" ∧ yX5_init.cls ≠ "java/lang/invoke/VarHandle" ∧ (parseMethodDescriptor yX5_init.desc).map (fun d => d.parameters.length) = some 1 := by decide +kernel
set_option maxHeartbeats 4000000 in
theorem mtX5_init {Γ : gT} {l : Launch} {mc ms : Nat} {o : Nat} {oc : Nat} {ac : Nat → Nat} {tc : flT} {K : (Nat) → (Nat) → (Nat) → (Nat) → (Nat) → (flT) → Prop}  (hw : wpX5_init mc ms K  o oc ac tc) : cV Γ l yX5_init (ws_ yX5_init cX5_init 2 none) (rmX5_init mc ms) E0 [.ref o, .ref oc] [[(o, .inr (4, [.null, .null, .null, .null, .null, .null, .int 0, .int 0, .int 0, .int 0]))], flW Γ 3 shX4 oc ac tc] (fun u : (Nat) × (Nat) × (Nat) × (Nat) × (Nat) × (flT) => [flW Γ 4 shX5 o (adL [oc, u.1, u.2.1, u.2.2.1, u.2.2.2.1, u.2.2.2.2.1]) u.2.2.2.2.2, flW Γ 3 shX4 oc ac tc]) (fun u => K u.1 u.2.1 u.2.2.1 u.2.2.2.1 u.2.2.2.2.1 u.2.2.2.2.2) := by
  refine cV_of (by decide +kernel) (Nat.le_of_ble_eq_true rfl) ?_
  intro p e s m args below meth c ls A Q hQ X hr hlk hnm hE Y hl
  have hx := X.1
  have hb := X.2.1
  have hl : lv_has ls 2 [(0, .ref o), (1, .ref oc)] := hl
  unfold wpX5_init at hw
  obtain ⟨H, hH⟩ : ∃ H : Heap, H = s.heap := ⟨_, rfl⟩
  obtain ⟨locs, hlo⟩ : ∃ locs : List Loc, locs = [] := ⟨_, rfl⟩
  rw [← hH, ← hlo] at Y
  rw [← hH, ← hlo]
  have hk : 0 ≤ mc ∧ 0 ≤ ms := ⟨Nat.zero_le _, Nat.zero_le _⟩
  refine lv_aload_n hx hb dX5_init_0 rfl (lv_at hl 0 rfl) ?_
  refine W.objInit hx hb X.2.2.2.1 (X.2.2.2.2.1 _ q350) (X.2.2.2.2.1 _ q195) (X.2.2.2.2.1 _ q196) rfl (by rw [X.2.2.1]; exact hl.1) rfl dX5_init_1 (Nat.le_of_ble_eq_true rfl) (Nat.le_of_ble_eq_true rfl) ?_
  refine W.eq (g2 := F0 m 4 ls []) rfl ?_
  refine lv_aload_n hx hb dX5_init_4 rfl (lv_at hl 0 rfl) ?_
  refine lv_bipush (v := 8) hx hb dX5_init_5 rfl ?_
  have hk := hw.1
  refine ar_new0 X Y (N := 8) (by decide) (by decide) (by decide) hk.1 hk.2 dX5_init_7 (fun q1 H Y => ?_)
  have Y : Wo Γ A s H locs [[(o, .inr (4, [.null, .null, .null, .null, .null, .null, .int 0, .int 0, .int 0, .int 0]))], flW Γ 3 shX4 oc ac tc, [(q1, .inl (Γ.2.1 0, 8, .inl (fun _ => 0)))]] := Y
  have hw := hw.2 q1
  refine ob_putF X Y 0 rfl fcX5 1 (by decide) (X.2.2.2.2.1 _ q352) rfl hnm rfl (by first | rfl | exact op_nar _ | exact op_narA _) (by first | rfl | exact op_fit _ | exact op_fitA _) (Nat.le_of_ble_eq_true rfl) dX5_init_9 (fun H locs Y => ?_)
  have Y : Wo Γ A s H locs [[(o, .inr (4, [.null, .ref q1, .null, .null, .null, .null, .int 0, .int 0, .int 0, .int 0]))], flW Γ 3 shX4 oc ac tc, [(q1, .inl (Γ.2.1 0, 8, .inl (fun _ => 0)))]] := Y
  refine lv_aload_n hx hb dX5_init_12 rfl (lv_at hl 0 rfl) ?_
  refine lv_bipush (v := 8) hx hb dX5_init_13 rfl ?_
  have hk := hw.1
  refine ar_new0 X Y (N := 8) (by decide) (by decide) (by decide) hk.1 hk.2 dX5_init_15 (fun q2 H Y => ?_)
  have Y : Wo Γ A s H locs [[(o, .inr (4, [.null, .ref q1, .null, .null, .null, .null, .int 0, .int 0, .int 0, .int 0]))], flW Γ 3 shX4 oc ac tc, [(q1, .inl (Γ.2.1 0, 8, .inl (fun _ => 0)))], [(q2, .inl (Γ.2.1 0, 8, .inl (fun _ => 0)))]] := Y
  have hw := hw.2 q2
  refine ob_putF X Y 0 rfl fcX5 2 (by decide) (X.2.2.2.2.1 _ q356) rfl hnm rfl (by first | rfl | exact op_nar _ | exact op_narA _) (by first | rfl | exact op_fit _ | exact op_fitA _) (Nat.le_of_ble_eq_true rfl) dX5_init_17 (fun H locs Y => ?_)
  have Y : Wo Γ A s H locs [[(o, .inr (4, [.null, .ref q1, .ref q2, .null, .null, .null, .int 0, .int 0, .int 0, .int 0]))], flW Γ 3 shX4 oc ac tc, [(q1, .inl (Γ.2.1 0, 8, .inl (fun _ => 0)))], [(q2, .inl (Γ.2.1 0, 8, .inl (fun _ => 0)))]] := Y
  refine lv_aload_n hx hb dX5_init_20 rfl (lv_at hl 0 rfl) ?_
  refine lv_bipush (v := 8) hx hb dX5_init_21 rfl ?_
  have hk := hw.1
  refine ar_new2 X Y (N := 8) (by decide) (by decide) (by decide) hk.1 hk.2 dX5_init_23 (fun q3 H Y => ?_)
  have Y : Wo Γ A s H locs [[(o, .inr (4, [.null, .ref q1, .ref q2, .null, .null, .null, .int 0, .int 0, .int 0, .int 0]))], flW Γ 3 shX4 oc ac tc, [(q1, .inl (Γ.2.1 0, 8, .inl (fun _ => 0)))], [(q2, .inl (Γ.2.1 0, 8, .inl (fun _ => 0)))], [(q3, .inl (Γ.2.1 2, 8, .inl (fun _ => 0)))]] := Y
  have hw := hw.2 q3
  refine ob_putF X Y 0 rfl fcX5 3 (by decide) (X.2.2.2.2.1 _ q358) rfl hnm rfl (by first | rfl | exact op_nar _ | exact op_narA _) (by first | rfl | exact op_fit _ | exact op_fitA _) (Nat.le_of_ble_eq_true rfl) dX5_init_25 (fun H locs Y => ?_)
  have Y : Wo Γ A s H locs [[(o, .inr (4, [.null, .ref q1, .ref q2, .ref q3, .null, .null, .int 0, .int 0, .int 0, .int 0]))], flW Γ 3 shX4 oc ac tc, [(q1, .inl (Γ.2.1 0, 8, .inl (fun _ => 0)))], [(q2, .inl (Γ.2.1 0, 8, .inl (fun _ => 0)))], [(q3, .inl (Γ.2.1 2, 8, .inl (fun _ => 0)))]] := Y
  refine lv_aload_n hx hb dX5_init_28 rfl (lv_at hl 0 rfl) ?_
  refine lv_bipush (v := 8) hx hb dX5_init_29 rfl ?_
  have hk := hw.1
  refine ar_new0 X Y (N := 8) (by decide) (by decide) (by decide) hk.1 hk.2 dX5_init_31 (fun q4 H Y => ?_)
  have Y : Wo Γ A s H locs [[(o, .inr (4, [.null, .ref q1, .ref q2, .ref q3, .null, .null, .int 0, .int 0, .int 0, .int 0]))], flW Γ 3 shX4 oc ac tc, [(q1, .inl (Γ.2.1 0, 8, .inl (fun _ => 0)))], [(q2, .inl (Γ.2.1 0, 8, .inl (fun _ => 0)))], [(q3, .inl (Γ.2.1 2, 8, .inl (fun _ => 0)))], [(q4, .inl (Γ.2.1 0, 8, .inl (fun _ => 0)))]] := Y
  have hw := hw.2 q4
  refine ob_putF X Y 0 rfl fcX5 4 (by decide) (X.2.2.2.2.1 _ q361) rfl hnm rfl (by first | rfl | exact op_nar _ | exact op_narA _) (by first | rfl | exact op_fit _ | exact op_fitA _) (Nat.le_of_ble_eq_true rfl) dX5_init_33 (fun H locs Y => ?_)
  have Y : Wo Γ A s H locs [[(o, .inr (4, [.null, .ref q1, .ref q2, .ref q3, .ref q4, .null, .int 0, .int 0, .int 0, .int 0]))], flW Γ 3 shX4 oc ac tc, [(q1, .inl (Γ.2.1 0, 8, .inl (fun _ => 0)))], [(q2, .inl (Γ.2.1 0, 8, .inl (fun _ => 0)))], [(q3, .inl (Γ.2.1 2, 8, .inl (fun _ => 0)))], [(q4, .inl (Γ.2.1 0, 8, .inl (fun _ => 0)))]] := Y
  refine lv_aload_n hx hb dX5_init_36 rfl (lv_at hl 0 rfl) ?_
  refine lv_bipush (v := 48) hx hb dX5_init_37 rfl ?_
  have hk := hw.1
  refine ar_new0 X Y (N := 48) (by decide) (by decide) (by decide) hk.1 hk.2 dX5_init_39 (fun q5 H Y => ?_)
  have Y : Wo Γ A s H locs [[(o, .inr (4, [.null, .ref q1, .ref q2, .ref q3, .ref q4, .null, .int 0, .int 0, .int 0, .int 0]))], flW Γ 3 shX4 oc ac tc, [(q1, .inl (Γ.2.1 0, 8, .inl (fun _ => 0)))], [(q2, .inl (Γ.2.1 0, 8, .inl (fun _ => 0)))], [(q3, .inl (Γ.2.1 2, 8, .inl (fun _ => 0)))], [(q4, .inl (Γ.2.1 0, 8, .inl (fun _ => 0)))], [(q5, .inl (Γ.2.1 0, 48, .inl (fun _ => 0)))]] := Y
  have hw := hw.2 q5
  refine ob_putF X Y 0 rfl fcX5 5 (by decide) (X.2.2.2.2.1 _ q364) rfl hnm rfl (by first | rfl | exact op_nar _ | exact op_narA _) (by first | rfl | exact op_fit _ | exact op_fitA _) (Nat.le_of_ble_eq_true rfl) dX5_init_41 (fun H locs Y => ?_)
  have Y : Wo Γ A s H locs [[(o, .inr (4, [.null, .ref q1, .ref q2, .ref q3, .ref q4, .ref q5, .int 0, .int 0, .int 0, .int 0]))], flW Γ 3 shX4 oc ac tc, [(q1, .inl (Γ.2.1 0, 8, .inl (fun _ => 0)))], [(q2, .inl (Γ.2.1 0, 8, .inl (fun _ => 0)))], [(q3, .inl (Γ.2.1 2, 8, .inl (fun _ => 0)))], [(q4, .inl (Γ.2.1 0, 8, .inl (fun _ => 0)))], [(q5, .inl (Γ.2.1 0, 48, .inl (fun _ => 0)))]] := Y
  refine lv_aload_n hx hb dX5_init_44 rfl (lv_at hl 0 rfl) ?_
  refine lv_aload_n hx hb dX5_init_45 rfl (lv_at hl 1 rfl) ?_
  refine ob_putF X Y 0 rfl fcX5 0 (by decide) (X.2.2.2.2.1 _ q351) rfl hnm rfl (by first | rfl | exact op_nar _ | exact op_narA _) (by first | rfl | exact op_fit _ | exact op_fitA _) (Nat.le_of_ble_eq_true rfl) dX5_init_46 (fun H locs Y => ?_)
  have Y : Wo Γ A s H locs [[(o, .inr (4, [.ref oc, .ref q1, .ref q2, .ref q3, .ref q4, .ref q5, .int 0, .int 0, .int 0, .int 0]))], flW Γ 3 shX4 oc ac tc, [(q1, .inl (Γ.2.1 0, 8, .inl (fun _ => 0)))], [(q2, .inl (Γ.2.1 0, 8, .inl (fun _ => 0)))], [(q3, .inl (Γ.2.1 2, 8, .inl (fun _ => 0)))], [(q4, .inl (Γ.2.1 0, 8, .inl (fun _ => 0)))], [(q5, .inl (Γ.2.1 0, 48, .inl (fun _ => 0)))]] := Y
  have Y : Wo Γ A s H locs [[(o, .inr (4, [.ref oc, .ref q1, .ref q2, .ref q3, .ref q4, .ref q5, .int 0, .int 0, .int 0, .int 0]))], [(q1, .inl (Γ.2.1 0, 8, .inl (fun _ => 0)))], [(q2, .inl (Γ.2.1 0, 8, .inl (fun _ => 0)))], [(q3, .inl (Γ.2.1 2, 8, .inl (fun _ => 0)))], [(q4, .inl (Γ.2.1 0, 8, .inl (fun _ => 0)))], [(q5, .inl (Γ.2.1 0, 48, .inl (fun _ => 0)))], flW Γ 3 shX4 oc ac tc] := Y.perm [0, 2, 3, 4, 5, 6, 1] rfl rfl
  have Y : Wo Γ A s H locs [flW Γ 4 shX5 o (adL [oc, q1, q2, q3, q4, q5]) (numL [0, 0, 0, 0, 0, 0, 0, 0, 0, 0], arrL [(fun _ => 0), (fun _ => 0), (fun _ => 0), (fun _ => 0), (fun _ => 0), (fun _ => 0), (fun _ => 0), (fun _ => 0), (fun _ => 0), (fun _ => 0)], 0), flW Γ 3 shX4 oc ac tc] := Y.fl rfl
  subst hQ
  exact re_v X Y hr hlk (q1, q2, q3, q4, q5, (numL [0, 0, 0, 0, 0, 0, 0, 0, 0, 0], arrL [(fun _ => 0), (fun _ => 0), (fun _ => 0), (fun _ => 0), (fun _ => 0), (fun _ => 0), (fun _ => 0), (fun _ => 0), (fun _ => 0), (fun _ => 0)], 0)) rfl hw (hk.1) (hk.2) dX5_init_49
def wpX5_become (K : (flT) → Prop)  (os : Nat) (oc : Nat) (s1 : Nat) (s2 : Nat) (s3 : Nat) (s4 : Nat) (s5 : Nat) (ts : flT) (ac : Nat → Nat) (tc : flT) (os2 : Nat) (oc2 : Nat) (z1 : Nat) (z2 : Nat) (z3 : Nat) (z4 : Nat) (z5 : Nat) (ts2 : flT) : Prop := (¬ (0 : Int32) < 0 ∧ ¬ (0 : Int32) < 0 ∧ ¬ (8 : Int32) < 0 ∧ (0 : Int32).toNatClampNeg + (8 : Int32).toNatClampNeg ≤ 8 ∧ (0 : Int32).toNatClampNeg + (8 : Int32).toNatClampNeg ≤ 8 ∧ (∀ i : Nat, i < (8 : Int32).toNatClampNeg → fits .int (.int ((ts2.2.1 1) ((0 : Int32).toNatClampNeg + i))) = true)) ∧ (∀ t1 : flT, t1 = (ts.1, va_up ts.2.1 1 (va_cpy (ts2.2.1 1) (ts.2.1 1) (0 : Int32).toNatClampNeg (0 : Int32).toNatClampNeg (8 : Int32).toNatClampNeg), ts.2.2) → ((¬ (0 : Int32) < 0 ∧ ¬ (0 : Int32) < 0 ∧ ¬ (8 : Int32) < 0 ∧ (0 : Int32).toNatClampNeg + (8 : Int32).toNatClampNeg ≤ 8 ∧ (0 : Int32).toNatClampNeg + (8 : Int32).toNatClampNeg ≤ 8 ∧ (∀ i : Nat, i < (8 : Int32).toNatClampNeg → fits .int (.int ((ts2.2.1 2) ((0 : Int32).toNatClampNeg + i))) = true)) ∧ (∀ t2 : flT, t2 = (t1.1, va_up t1.2.1 2 (va_cpy (ts2.2.1 2) (t1.2.1 2) (0 : Int32).toNatClampNeg (0 : Int32).toNatClampNeg (8 : Int32).toNatClampNeg), t1.2.2) → ((¬ (0 : Int32) < 0 ∧ ¬ (0 : Int32) < 0 ∧ ¬ (8 : Int32) < 0 ∧ (0 : Int32).toNatClampNeg + (8 : Int32).toNatClampNeg ≤ 8 ∧ (0 : Int32).toNatClampNeg + (8 : Int32).toNatClampNeg ≤ 8 ∧ (∀ i : Nat, i < (8 : Int32).toNatClampNeg → fits .boolean (.int ((ts2.2.1 3) ((0 : Int32).toNatClampNeg + i))) = true)) ∧ (∀ t3 : flT, t3 = (t2.1, va_up t2.2.1 3 (va_cpy (ts2.2.1 3) (t2.2.1 3) (0 : Int32).toNatClampNeg (0 : Int32).toNatClampNeg (8 : Int32).toNatClampNeg), t2.2.2) → ((¬ (0 : Int32) < 0 ∧ ¬ (0 : Int32) < 0 ∧ ¬ (8 : Int32) < 0 ∧ (0 : Int32).toNatClampNeg + (8 : Int32).toNatClampNeg ≤ 8 ∧ (0 : Int32).toNatClampNeg + (8 : Int32).toNatClampNeg ≤ 8 ∧ (∀ i : Nat, i < (8 : Int32).toNatClampNeg → fits .int (.int ((ts2.2.1 4) ((0 : Int32).toNatClampNeg + i))) = true)) ∧ (∀ t4 : flT, t4 = (t3.1, va_up t3.2.1 4 (va_cpy (ts2.2.1 4) (t3.2.1 4) (0 : Int32).toNatClampNeg (0 : Int32).toNatClampNeg (8 : Int32).toNatClampNeg), t3.2.2) → ((¬ (0 : Int32) < 0 ∧ ¬ (0 : Int32) < 0 ∧ ¬ (nI 48) < 0 ∧ (0 : Int32).toNatClampNeg + (nI 48).toNatClampNeg ≤ 48 ∧ (0 : Int32).toNatClampNeg + (nI 48).toNatClampNeg ≤ 48 ∧ (∀ i : Nat, i < (nI 48).toNatClampNeg → fits .int (.int ((ts2.2.1 5) ((0 : Int32).toNatClampNeg + i))) = true)) ∧ (∀ t5 : flT, t5 = (t4.1, va_up t4.2.1 5 (va_cpy (ts2.2.1 5) (t4.2.1 5) (0 : Int32).toNatClampNeg (0 : Int32).toNatClampNeg (nI 48).toNatClampNeg), t4.2.2) → (∀ t6 : flT, t6 = (upd (upd (upd t5.1 6 (ts2.1 6), t5.2).1 7 (ts2.1 7), (upd t5.1 6 (ts2.1 6), t5.2).2).1 8 (ts2.1 8), (upd (upd t5.1 6 (ts2.1 6), t5.2).1 7 (ts2.1 7), (upd t5.1 6 (ts2.1 6), t5.2).2).2) → (K (upd t6.1 9 (ts2.1 9), t6.2))))))))))))
abbrev rmX5_become : Room := { frames := 1, cells := 0, slots := 0, locals := 60 }
theorem hdX5_become : yX5_become.cls ≠ "java/lang/invoke/MethodHandle" ∧ yX5_become.cls ≠ "java/lang/invoke/VarHandle" ∧ (parseMethodDescriptor yX5_become.desc).map (fun d => d.parameters.length) = some 1 := by decide +kernel
theorem hpX5_become : yX5_become.name ≠ "<init>" ∧ (parseMethodDescriptor yX5_become.desc).map (fun d => d.parameters.length) = some 1 := by decide +kernel
theorem huX5_become : RX5 ≠ "java/lang/invoke/MethodHandle" ∧ RX5 ≠ "java/lang/invoke/VarHandle" ∧ (parseMethodDescriptor yX5_become.desc).map (fun d => d.parameters.length) = some 1 := by decide +kernel
set_option maxHeartbeats 4000000 in
theorem mtX5_become {Γ : gT} {l : Launch} {os : Nat} {oc : Nat} {s1 : Nat} {s2 : Nat} {s3 : Nat} {s4 : Nat} {s5 : Nat} {ts : flT} {ac : Nat → Nat} {tc : flT} {os2 : Nat} {oc2 : Nat} {z1 : Nat} {z2 : Nat} {z3 : Nat} {z4 : Nat} {z5 : Nat} {ts2 : flT} {K : (flT) → Prop}  (hw : wpX5_become K  os oc s1 s2 s3 s4 s5 ts ac tc os2 oc2 z1 z2 z3 z4 z5 ts2) : cR Γ l yX5_become (ws_ yX5_become cX5_become 2 (some (.object "SpindleActors$Scene"))) rmX5_become E0 [.ref os, .ref os2] [flW Γ 4 shX5 os (adL [oc, s1, s2, s3, s4, s5]) ts, flW Γ 3 shX4 oc ac tc, flW Γ 4 shX5 os2 (adL [oc2, z1, z2, z3, z4, z5]) ts2] (fun u : (flT) => [flW Γ 4 shX5 os (adL [oc, s1, s2, s3, s4, s5]) u, flW Γ 3 shX4 oc ac tc, flW Γ 4 shX5 os2 (adL [oc2, z1, z2, z3, z4, z5]) ts2]) (fun r u => r = some os ∧ K u) := by
  refine cR_of (by decide +kernel) (Nat.le_of_ble_eq_true rfl) ?_
  intro p e s m args below meth c ls A Q hQ X hr hlk hnm hE Y hl
  have hx := X.1
  have hb := X.2.1
  have hl : lv_has ls 2 [(0, .ref os), (1, .ref os2)] := hl
  unfold wpX5_become at hw
  obtain ⟨H, hH⟩ : ∃ H : Heap, H = s.heap := ⟨_, rfl⟩
  obtain ⟨locs, hlo⟩ : ∃ locs : List Loc, locs = [] := ⟨_, rfl⟩
  rw [← hH, ← hlo] at Y
  rw [← hH, ← hlo]
  refine lv_aload_n hx hb dX5_become_0 rfl (lv_at hl 1 rfl) ?_
  refine fl_get X Y 2 rfl fcX5 1 rfl (by decide) (X.2.2.2.2.1 _ q352) rfl dX5_become_1 ?_
  refine lv_iconst (v := 0) hx hb dX5_become_4 rfl ?_
  refine lv_aload_n hx hb dX5_become_5 rfl (lv_at hl 0 rfl) ?_
  refine fl_get X Y 0 rfl fcX5 1 rfl (by decide) (X.2.2.2.2.1 _ q352) rfl dX5_become_6 ?_
  refine lv_iconst (v := 0) hx hb dX5_become_9 rfl ?_
  refine lv_bipush (v := 8) hx hb dX5_become_10 rfl ?_
  obtain ⟨⟨w1, w2, w3, w4, w5, w6⟩, hw⟩ := hw
  refine za_cpy (t := 0) rfl rfl X Y (arAt_fl Y 2 rfl 1 (t := 0) rfl) (arAt_fl Y 0 rfl 1 (t := 0) rfl) q919 q773 q772 q148 hl.1 w1 w2 w3 w4 w5 w6 (Nat.le_of_ble_eq_true rfl) (Nat.le_of_ble_eq_true rfl) dX5_become_12 (fun H locs Y => ?_)
  obtain ⟨t1, ht1⟩ : ∃ z : flT, z = (ts.1, va_up ts.2.1 1 (va_cpy (ts2.2.1 1) (ts.2.1 1) (0 : Int32).toNatClampNeg (0 : Int32).toNatClampNeg (8 : Int32).toNatClampNeg), ts.2.2) := ⟨_, rfl⟩
  have Y : Wo Γ A s H locs [flW Γ 4 shX5 os (adL [oc, s1, s2, s3, s4, s5]) t1, flW Γ 3 shX4 oc ac tc, flW Γ 4 shX5 os2 (adL [oc2, z1, z2, z3, z4, z5]) ts2] := by rw [ht1]; exact Y
  have hw := hw t1 ht1
  refine lv_aload_n hx hb dX5_become_15 rfl (lv_at hl 1 rfl) ?_
  refine fl_get X Y 2 rfl fcX5 2 rfl (by decide) (X.2.2.2.2.1 _ q356) rfl dX5_become_16 ?_
  refine lv_iconst (v := 0) hx hb dX5_become_19 rfl ?_
  refine lv_aload_n hx hb dX5_become_20 rfl (lv_at hl 0 rfl) ?_
  refine fl_get X Y 0 rfl fcX5 2 rfl (by decide) (X.2.2.2.2.1 _ q356) rfl dX5_become_21 ?_
  refine lv_iconst (v := 0) hx hb dX5_become_24 rfl ?_
  refine lv_bipush (v := 8) hx hb dX5_become_25 rfl ?_
  obtain ⟨⟨w1, w2, w3, w4, w5, w6⟩, hw⟩ := hw
  refine za_cpy (t := 0) rfl rfl X Y (arAt_fl Y 2 rfl 2 (t := 0) rfl) (arAt_fl Y 0 rfl 2 (t := 0) rfl) q919 q773 q772 q148 hl.1 w1 w2 w3 w4 w5 w6 (Nat.le_of_ble_eq_true rfl) (Nat.le_of_ble_eq_true rfl) dX5_become_27 (fun H locs Y => ?_)
  obtain ⟨t2, ht2⟩ : ∃ z : flT, z = (t1.1, va_up t1.2.1 2 (va_cpy (ts2.2.1 2) (t1.2.1 2) (0 : Int32).toNatClampNeg (0 : Int32).toNatClampNeg (8 : Int32).toNatClampNeg), t1.2.2) := ⟨_, rfl⟩
  have Y : Wo Γ A s H locs [flW Γ 4 shX5 os (adL [oc, s1, s2, s3, s4, s5]) t2, flW Γ 3 shX4 oc ac tc, flW Γ 4 shX5 os2 (adL [oc2, z1, z2, z3, z4, z5]) ts2] := by rw [ht2]; exact Y
  have hw := hw t2 ht2
  refine lv_aload_n hx hb dX5_become_30 rfl (lv_at hl 1 rfl) ?_
  refine fl_get X Y 2 rfl fcX5 3 rfl (by decide) (X.2.2.2.2.1 _ q358) rfl dX5_become_31 ?_
  refine lv_iconst (v := 0) hx hb dX5_become_34 rfl ?_
  refine lv_aload_n hx hb dX5_become_35 rfl (lv_at hl 0 rfl) ?_
  refine fl_get X Y 0 rfl fcX5 3 rfl (by decide) (X.2.2.2.2.1 _ q358) rfl dX5_become_36 ?_
  refine lv_iconst (v := 0) hx hb dX5_become_39 rfl ?_
  refine lv_bipush (v := 8) hx hb dX5_become_40 rfl ?_
  obtain ⟨⟨w1, w2, w3, w4, w5, w6⟩, hw⟩ := hw
  refine za_cpy (t := 2) rfl rfl X Y (arAt_fl Y 2 rfl 3 (t := 2) rfl) (arAt_fl Y 0 rfl 3 (t := 2) rfl) q919 q773 q772 q148 hl.1 w1 w2 w3 w4 w5 w6 (Nat.le_of_ble_eq_true rfl) (Nat.le_of_ble_eq_true rfl) dX5_become_42 (fun H locs Y => ?_)
  obtain ⟨t3, ht3⟩ : ∃ z : flT, z = (t2.1, va_up t2.2.1 3 (va_cpy (ts2.2.1 3) (t2.2.1 3) (0 : Int32).toNatClampNeg (0 : Int32).toNatClampNeg (8 : Int32).toNatClampNeg), t2.2.2) := ⟨_, rfl⟩
  have Y : Wo Γ A s H locs [flW Γ 4 shX5 os (adL [oc, s1, s2, s3, s4, s5]) t3, flW Γ 3 shX4 oc ac tc, flW Γ 4 shX5 os2 (adL [oc2, z1, z2, z3, z4, z5]) ts2] := by rw [ht3]; exact Y
  have hw := hw t3 ht3
  refine lv_aload_n hx hb dX5_become_45 rfl (lv_at hl 1 rfl) ?_
  refine fl_get X Y 2 rfl fcX5 4 rfl (by decide) (X.2.2.2.2.1 _ q361) rfl dX5_become_46 ?_
  refine lv_iconst (v := 0) hx hb dX5_become_49 rfl ?_
  refine lv_aload_n hx hb dX5_become_50 rfl (lv_at hl 0 rfl) ?_
  refine fl_get X Y 0 rfl fcX5 4 rfl (by decide) (X.2.2.2.2.1 _ q361) rfl dX5_become_51 ?_
  refine lv_iconst (v := 0) hx hb dX5_become_54 rfl ?_
  refine lv_bipush (v := 8) hx hb dX5_become_55 rfl ?_
  obtain ⟨⟨w1, w2, w3, w4, w5, w6⟩, hw⟩ := hw
  refine za_cpy (t := 0) rfl rfl X Y (arAt_fl Y 2 rfl 4 (t := 0) rfl) (arAt_fl Y 0 rfl 4 (t := 0) rfl) q919 q773 q772 q148 hl.1 w1 w2 w3 w4 w5 w6 (Nat.le_of_ble_eq_true rfl) (Nat.le_of_ble_eq_true rfl) dX5_become_57 (fun H locs Y => ?_)
  obtain ⟨t4, ht4⟩ : ∃ z : flT, z = (t3.1, va_up t3.2.1 4 (va_cpy (ts2.2.1 4) (t3.2.1 4) (0 : Int32).toNatClampNeg (0 : Int32).toNatClampNeg (8 : Int32).toNatClampNeg), t3.2.2) := ⟨_, rfl⟩
  have Y : Wo Γ A s H locs [flW Γ 4 shX5 os (adL [oc, s1, s2, s3, s4, s5]) t4, flW Γ 3 shX4 oc ac tc, flW Γ 4 shX5 os2 (adL [oc2, z1, z2, z3, z4, z5]) ts2] := by rw [ht4]; exact Y
  have hw := hw t4 ht4
  refine lv_aload_n hx hb dX5_become_60 rfl (lv_at hl 1 rfl) ?_
  refine fl_get X Y 2 rfl fcX5 5 rfl (by decide) (X.2.2.2.2.1 _ q364) rfl dX5_become_61 ?_
  refine lv_iconst (v := 0) hx hb dX5_become_64 rfl ?_
  refine lv_aload_n hx hb dX5_become_65 rfl (lv_at hl 0 rfl) ?_
  refine fl_get X Y 0 rfl fcX5 5 rfl (by decide) (X.2.2.2.2.1 _ q364) rfl dX5_become_66 ?_
  refine lv_iconst (v := 0) hx hb dX5_become_69 rfl ?_
  refine lv_aload_n hx hb dX5_become_70 rfl (lv_at hl 0 rfl) ?_
  refine fl_get X Y 0 rfl fcX5 5 rfl (by decide) (X.2.2.2.2.1 _ q364) rfl dX5_become_71 ?_
  refine fl_alen (t := 0) X Y 0 rfl 5 rfl rfl dX5_become_74 ?_
  obtain ⟨⟨w1, w2, w3, w4, w5, w6⟩, hw⟩ := hw
  refine za_cpy (t := 0) rfl rfl X Y (arAt_fl Y 2 rfl 5 (t := 0) rfl) (arAt_fl Y 0 rfl 5 (t := 0) rfl) q919 q773 q772 q148 hl.1 w1 w2 w3 w4 w5 w6 (Nat.le_of_ble_eq_true rfl) (Nat.le_of_ble_eq_true rfl) dX5_become_75 (fun H locs Y => ?_)
  obtain ⟨t5, ht5⟩ : ∃ z : flT, z = (t4.1, va_up t4.2.1 5 (va_cpy (ts2.2.1 5) (t4.2.1 5) (0 : Int32).toNatClampNeg (0 : Int32).toNatClampNeg (nI 48).toNatClampNeg), t4.2.2) := ⟨_, rfl⟩
  have Y : Wo Γ A s H locs [flW Γ 4 shX5 os (adL [oc, s1, s2, s3, s4, s5]) t5, flW Γ 3 shX4 oc ac tc, flW Γ 4 shX5 os2 (adL [oc2, z1, z2, z3, z4, z5]) ts2] := by rw [ht5]; exact Y
  have hw := hw t5 ht5
  refine lv_aload_n hx hb dX5_become_78 rfl (lv_at hl 0 rfl) ?_
  refine lv_aload_n hx hb dX5_become_79 rfl (lv_at hl 1 rfl) ?_
  refine fl_get X Y 2 rfl fcX5 6 rfl (by decide) (X.2.2.2.2.1 _ q365) rfl dX5_become_80 ?_
  refine fl_put X Y 0 rfl fcX5 6 rfl (by decide) (X.2.2.2.2.1 _ q365) rfl rfl rfl dX5_become_83 (fun H locs Y => ?_)
  have Y : Wo Γ A s H locs [flW Γ 4 shX5 os (adL [oc, s1, s2, s3, s4, s5]) (upd t5.1 6 (ts2.1 6), t5.2), flW Γ 3 shX4 oc ac tc, flW Γ 4 shX5 os2 (adL [oc2, z1, z2, z3, z4, z5]) ts2] := Y
  refine lv_aload_n hx hb dX5_become_86 rfl (lv_at hl 0 rfl) ?_
  refine lv_aload_n hx hb dX5_become_87 rfl (lv_at hl 1 rfl) ?_
  refine fl_get X Y 2 rfl fcX5 7 rfl (by decide) (X.2.2.2.2.1 _ q368) rfl dX5_become_88 ?_
  refine fl_put X Y 0 rfl fcX5 7 rfl (by decide) (X.2.2.2.2.1 _ q368) rfl rfl rfl dX5_become_91 (fun H locs Y => ?_)
  have Y : Wo Γ A s H locs [flW Γ 4 shX5 os (adL [oc, s1, s2, s3, s4, s5]) (upd (upd t5.1 6 (ts2.1 6), t5.2).1 7 (ts2.1 7), (upd t5.1 6 (ts2.1 6), t5.2).2), flW Γ 3 shX4 oc ac tc, flW Γ 4 shX5 os2 (adL [oc2, z1, z2, z3, z4, z5]) ts2] := Y
  refine lv_aload_n hx hb dX5_become_94 rfl (lv_at hl 0 rfl) ?_
  refine lv_aload_n hx hb dX5_become_95 rfl (lv_at hl 1 rfl) ?_
  refine fl_get X Y 2 rfl fcX5 8 rfl (by decide) (X.2.2.2.2.1 _ q370) rfl dX5_become_96 ?_
  refine fl_put X Y 0 rfl fcX5 8 rfl (by decide) (X.2.2.2.2.1 _ q370) rfl rfl rfl dX5_become_99 (fun H locs Y => ?_)
  obtain ⟨t6, ht6⟩ : ∃ z : flT, z = (upd (upd (upd t5.1 6 (ts2.1 6), t5.2).1 7 (ts2.1 7), (upd t5.1 6 (ts2.1 6), t5.2).2).1 8 (ts2.1 8), (upd (upd t5.1 6 (ts2.1 6), t5.2).1 7 (ts2.1 7), (upd t5.1 6 (ts2.1 6), t5.2).2).2) := ⟨_, rfl⟩
  have Y : Wo Γ A s H locs [flW Γ 4 shX5 os (adL [oc, s1, s2, s3, s4, s5]) t6, flW Γ 3 shX4 oc ac tc, flW Γ 4 shX5 os2 (adL [oc2, z1, z2, z3, z4, z5]) ts2] := by rw [ht6]; exact Y
  have hw := hw t6 ht6
  refine lv_aload_n hx hb dX5_become_102 rfl (lv_at hl 0 rfl) ?_
  refine lv_aload_n hx hb dX5_become_103 rfl (lv_at hl 1 rfl) ?_
  refine fl_get X Y 2 rfl fcX5 9 rfl (by decide) (X.2.2.2.2.1 _ q372) rfl dX5_become_104 ?_
  refine fl_put X Y 0 rfl fcX5 9 rfl (by decide) (X.2.2.2.2.1 _ q372) rfl rfl rfl dX5_become_107 (fun H locs Y => ?_)
  have Y : Wo Γ A s H locs [flW Γ 4 shX5 os (adL [oc, s1, s2, s3, s4, s5]) (upd t6.1 9 (ts2.1 9), t6.2), flW Γ 3 shX4 oc ac tc, flW Γ 4 shX5 os2 (adL [oc2, z1, z2, z3, z4, z5]) ts2] := Y
  refine lv_aload_n hx hb dX5_become_110 rfl (lv_at hl 0 rfl) ?_
  subst hQ
  exact re_r (r := some os) X Y hr (by first | exact Or.inl ⟨_, rfl⟩ | exact Or.inr ⟨_, rfl⟩) hlk (upd t6.1 9 (ts2.1 9), t6.2) rfl ⟨rfl, hw⟩ (Nat.le_of_ble_eq_true rfl) (Nat.le_of_ble_eq_true rfl) dX5_become_111
def wpX5_message (K : (Int32) → Prop)  (os : Nat) (oc : Nat) (s1 : Nat) (s2 : Nat) (s3 : Nat) (s4 : Nat) (s5 : Nat) (ts : flT) (ac : Nat → Nat) (tc : flT) (a1 : Int32) (a2 : Int32) : Prop := vp_in (((6 : Int32) * a1) + a2) 48 ∧ (K (ts.2.1 5 (((6 : Int32) * a1) + a2).toNatClampNeg))
abbrev rmX5_message : Room := { frames := 0, cells := 0, slots := 0, locals := 0 }
theorem hdX5_message : yX5_message.cls ≠ "java/lang/invoke/MethodHandle" ∧ yX5_message.cls ≠ "java/lang/invoke/VarHandle" ∧ (parseMethodDescriptor yX5_message.desc).map (fun d => d.parameters.length) = some 2 := by decide +kernel
theorem hpX5_message : yX5_message.name ≠ "<init>" ∧ (parseMethodDescriptor yX5_message.desc).map (fun d => d.parameters.length) = some 2 := by decide +kernel
theorem huX5_message : RX5 ≠ "java/lang/invoke/MethodHandle" ∧ RX5 ≠ "java/lang/invoke/VarHandle" ∧ (parseMethodDescriptor yX5_message.desc).map (fun d => d.parameters.length) = some 2 := by decide +kernel
set_option maxHeartbeats 4000000 in
theorem mtX5_message {Γ : gT} {l : Launch} {os : Nat} {oc : Nat} {s1 : Nat} {s2 : Nat} {s3 : Nat} {s4 : Nat} {s5 : Nat} {ts : flT} {ac : Nat → Nat} {tc : flT} {a1 : Int32} {a2 : Int32} {K : (Int32) → Prop}  (hw : wpX5_message K  os oc s1 s2 s3 s4 s5 ts ac tc a1 a2) : cI Γ l yX5_message (ws_ yX5_message cX5_message 3 (some .int)) rmX5_message E0 [.ref os, .int a1, .int a2] [flW Γ 4 shX5 os (adL [oc, s1, s2, s3, s4, s5]) ts, flW Γ 3 shX4 oc ac tc] (fun u : Unit => [flW Γ 4 shX5 os (adL [oc, s1, s2, s3, s4, s5]) ts, flW Γ 3 shX4 oc ac tc]) (fun r u => K r ) := by
  refine cI_of (by decide +kernel) (Nat.le_of_ble_eq_true rfl) ?_
  intro p e s m args below meth c ls A Q hQ X hr hlk hnm hE Y hl
  have hx := X.1
  have hb := X.2.1
  have hl : lv_has ls 3 [(0, .ref os), (1, .int a1), (2, .int a2)] := hl
  unfold wpX5_message at hw
  obtain ⟨H, hH⟩ : ∃ H : Heap, H = s.heap := ⟨_, rfl⟩
  obtain ⟨locs, hlo⟩ : ∃ locs : List Loc, locs = [] := ⟨_, rfl⟩
  rw [← hH, ← hlo] at Y
  rw [← hH, ← hlo]
  refine lv_aload_n hx hb dX5_message_0 rfl (lv_at hl 0 rfl) ?_
  refine fl_get X Y 0 rfl fcX5 5 rfl (by decide) (X.2.2.2.2.1 _ q364) rfl dX5_message_1 ?_
  refine lv_bipush (v := 6) hx hb dX5_message_4 rfl ?_
  refine lv_iload_n hx hb dX5_message_6 rfl (lv_at hl 1 rfl) ?_
  refine lv_imul hx hb dX5_message_7 ?_
  refine lv_iload_n hx hb dX5_message_8 rfl (lv_at hl 2 rfl) ?_
  refine lv_iadd hx hb dX5_message_9 ?_
  refine fl_ald0 X Y 0 rfl 5 rfl hw.1 dX5_message_10 ?_
  have hw := hw.2
  subst hQ
  exact re_i X Y hr hlk () rfl rfl hw (Nat.le_of_ble_eq_true rfl) (Nat.le_of_ble_eq_true rfl) dX5_message_11
def wpX5_isFull (K : (Int32) → Prop)  (os : Nat) (oc : Nat) (s1 : Nat) (s2 : Nat) (s3 : Nat) (s4 : Nat) (s5 : Nat) (ts : flT) (ac : Nat → Nat) (tc : flT) (a1 : Int32) : Prop := vp_in a1 8 ∧ (vp_in a1 8 ∧ (((ts.2.1 4 a1.toNatClampNeg) = (tc.2.1 3 a1.toNatClampNeg) → (K 1)) ∧ (¬ (ts.2.1 4 a1.toNatClampNeg) = (tc.2.1 3 a1.toNatClampNeg) → (K 0))))
abbrev rmX5_isFull : Room := { frames := 0, cells := 0, slots := 0, locals := 0 }
theorem hdX5_isFull : yX5_isFull.cls ≠ "java/lang/invoke/MethodHandle" ∧ yX5_isFull.cls ≠ "java/lang/invoke/VarHandle" ∧ (parseMethodDescriptor yX5_isFull.desc).map (fun d => d.parameters.length) = some 1 := by decide +kernel
theorem hpX5_isFull : yX5_isFull.name ≠ "<init>" ∧ (parseMethodDescriptor yX5_isFull.desc).map (fun d => d.parameters.length) = some 1 := by decide +kernel
theorem huX5_isFull : RX5 ≠ "java/lang/invoke/MethodHandle" ∧ RX5 ≠ "java/lang/invoke/VarHandle" ∧ (parseMethodDescriptor yX5_isFull.desc).map (fun d => d.parameters.length) = some 1 := by decide +kernel
set_option maxHeartbeats 4000000 in
theorem mtX5_isFull {Γ : gT} {l : Launch} {os : Nat} {oc : Nat} {s1 : Nat} {s2 : Nat} {s3 : Nat} {s4 : Nat} {s5 : Nat} {ts : flT} {ac : Nat → Nat} {tc : flT} {a1 : Int32} {K : (Int32) → Prop}  (hw : wpX5_isFull K  os oc s1 s2 s3 s4 s5 ts ac tc a1) : cI Γ l yX5_isFull (ws_ yX5_isFull cX5_isFull 2 (some .boolean)) rmX5_isFull E0 [.ref os, .int a1] [flW Γ 4 shX5 os (adL [oc, s1, s2, s3, s4, s5]) ts, flW Γ 3 shX4 oc ac tc] (fun u : Unit => [flW Γ 4 shX5 os (adL [oc, s1, s2, s3, s4, s5]) ts, flW Γ 3 shX4 oc ac tc]) (fun r u => K r ) := by
  refine cI_of (by decide +kernel) (Nat.le_of_ble_eq_true rfl) ?_
  intro p e s m args below meth c ls A Q hQ X hr hlk hnm hE Y hl
  have hx := X.1
  have hb := X.2.1
  have hl : lv_has ls 2 [(0, .ref os), (1, .int a1)] := hl
  unfold wpX5_isFull at hw
  obtain ⟨H, hH⟩ : ∃ H : Heap, H = s.heap := ⟨_, rfl⟩
  obtain ⟨locs, hlo⟩ : ∃ locs : List Loc, locs = [] := ⟨_, rfl⟩
  rw [← hH, ← hlo] at Y
  rw [← hH, ← hlo]
  refine lv_aload_n hx hb dX5_isFull_0 rfl (lv_at hl 0 rfl) ?_
  refine fl_get X Y 0 rfl fcX5 4 rfl (by decide) (X.2.2.2.2.1 _ q361) rfl dX5_isFull_1 ?_
  refine lv_iload_n hx hb dX5_isFull_4 rfl (lv_at hl 1 rfl) ?_
  refine fl_ald0 X Y 0 rfl 4 rfl hw.1 dX5_isFull_5 ?_
  have hw := hw.2
  refine lv_aload_n hx hb dX5_isFull_6 rfl (lv_at hl 0 rfl) ?_
  refine fl_get X Y 0 rfl fcX5 0 rfl (by decide) (X.2.2.2.2.1 _ q351) rfl dX5_isFull_7 ?_
  refine fl_getN X Y 1 rfl fcX4 3 rfl (by decide) q315 rfl dX5_isFull_10 ?_
  refine lv_iload_n hx hb dX5_isFull_13 rfl (lv_at hl 1 rfl) ?_
  refine fl_ald0 X Y 1 rfl 3 rfl hw.1 dX5_isFull_14 ?_
  have hw := hw.2
  refine lv_icmp_ne (tgt := 22) hx hb dX5_isFull_15 (by decide) (fun hc => ?_) (fun hc => ?_)
  · have hw := hw.2 hc
    refine lv_iconst (v := 0) hx hb dX5_isFull_22 rfl ?_
    subst hQ
    exact re_i X Y hr hlk () rfl rfl hw (Nat.le_of_ble_eq_true rfl) (Nat.le_of_ble_eq_true rfl) dX5_isFull_23
  · have hw := hw.1 hc
    refine lv_iconst (v := 1) hx hb dX5_isFull_18 rfl ?_
    refine lv_goto (tgt := 23) hx hb dX5_isFull_19 (by decide) ?_
    subst hQ
    exact re_i X Y hr hlk () rfl rfl hw (Nat.le_of_ble_eq_true rfl) (Nat.le_of_ble_eq_true rfl) dX5_isFull_23
def wpX5_put (K : (flT) → Prop)  (os : Nat) (oc : Nat) (s1 : Nat) (s2 : Nat) (s3 : Nat) (s4 : Nat) (s5 : Nat) (ts : flT) (ac : Nat → Nat) (tc : flT) (a1 : Int32) (a2 : Int32) : Prop := vp_in a1 8 ∧ (vp_in (((6 : Int32) * a1) + (ts.2.1 4 a1.toNatClampNeg)) 48 ∧ (∀ t1 : flT, t1 = (ts.1, va_up ts.2.1 5 (upd (ts.2.1 5) (((6 : Int32) * a1) + (ts.2.1 4 a1.toNatClampNeg)).toNatClampNeg a2), ts.2.2) → (vp_in a1 8 ∧ (vp_in a1 8 ∧ (∀ t2 : flT, t2 = (t1.1, va_up t1.2.1 4 (upd (t1.2.1 4) a1.toNatClampNeg ((t1.2.1 4 a1.toNatClampNeg) + 1)), t1.2.2) → (K (upd t2.1 8 ((t2.1 8) + 1), t2.2)))))))
abbrev rmX5_put : Room := { frames := 0, cells := 0, slots := 0, locals := 0 }
theorem hdX5_put : yX5_put.cls ≠ "java/lang/invoke/MethodHandle" ∧ yX5_put.cls ≠ "java/lang/invoke/VarHandle" ∧ (parseMethodDescriptor yX5_put.desc).map (fun d => d.parameters.length) = some 2 := by decide +kernel
theorem hpX5_put : yX5_put.name ≠ "<init>" ∧ (parseMethodDescriptor yX5_put.desc).map (fun d => d.parameters.length) = some 2 := by decide +kernel
theorem huX5_put : RX5 ≠ "java/lang/invoke/MethodHandle" ∧ RX5 ≠ "java/lang/invoke/VarHandle" ∧ (parseMethodDescriptor yX5_put.desc).map (fun d => d.parameters.length) = some 2 := by decide +kernel
set_option maxHeartbeats 4000000 in
theorem mtX5_put {Γ : gT} {l : Launch} {os : Nat} {oc : Nat} {s1 : Nat} {s2 : Nat} {s3 : Nat} {s4 : Nat} {s5 : Nat} {ts : flT} {ac : Nat → Nat} {tc : flT} {a1 : Int32} {a2 : Int32} {K : (flT) → Prop}  (hw : wpX5_put K  os oc s1 s2 s3 s4 s5 ts ac tc a1 a2) : cV Γ l yX5_put (ws_ yX5_put cX5_put 3 none) rmX5_put E0 [.ref os, .int a1, .int a2] [flW Γ 4 shX5 os (adL [oc, s1, s2, s3, s4, s5]) ts, flW Γ 3 shX4 oc ac tc] (fun u : (flT) => [flW Γ 4 shX5 os (adL [oc, s1, s2, s3, s4, s5]) u, flW Γ 3 shX4 oc ac tc]) (fun u => K u) := by
  refine cV_of (by decide +kernel) (Nat.le_of_ble_eq_true rfl) ?_
  intro p e s m args below meth c ls A Q hQ X hr hlk hnm hE Y hl
  have hx := X.1
  have hb := X.2.1
  have hl : lv_has ls 3 [(0, .ref os), (1, .int a1), (2, .int a2)] := hl
  unfold wpX5_put at hw
  obtain ⟨H, hH⟩ : ∃ H : Heap, H = s.heap := ⟨_, rfl⟩
  obtain ⟨locs, hlo⟩ : ∃ locs : List Loc, locs = [] := ⟨_, rfl⟩
  rw [← hH, ← hlo] at Y
  rw [← hH, ← hlo]
  refine lv_aload_n hx hb dX5_put_0 rfl (lv_at hl 0 rfl) ?_
  refine fl_get X Y 0 rfl fcX5 5 rfl (by decide) (X.2.2.2.2.1 _ q364) rfl dX5_put_1 ?_
  refine lv_bipush (v := 6) hx hb dX5_put_4 rfl ?_
  refine lv_iload_n hx hb dX5_put_6 rfl (lv_at hl 1 rfl) ?_
  refine lv_imul hx hb dX5_put_7 ?_
  refine lv_aload_n hx hb dX5_put_8 rfl (lv_at hl 0 rfl) ?_
  refine fl_get X Y 0 rfl fcX5 4 rfl (by decide) (X.2.2.2.2.1 _ q361) rfl dX5_put_9 ?_
  refine lv_iload_n hx hb dX5_put_12 rfl (lv_at hl 1 rfl) ?_
  refine fl_ald0 X Y 0 rfl 4 rfl hw.1 dX5_put_13 ?_
  have hw := hw.2
  refine lv_iadd hx hb dX5_put_14 ?_
  refine lv_iload_n hx hb dX5_put_15 rfl (lv_at hl 2 rfl) ?_
  refine fl_ast0 X Y 0 rfl 5 rfl hw.1 dX5_put_16 (fun H locs Y => ?_)
  have hw := hw.2
  obtain ⟨t1, ht1⟩ : ∃ z : flT, z = (ts.1, va_up ts.2.1 5 (upd (ts.2.1 5) (((6 : Int32) * a1) + (ts.2.1 4 a1.toNatClampNeg)).toNatClampNeg a2), ts.2.2) := ⟨_, rfl⟩
  have Y : Wo Γ A s H locs [flW Γ 4 shX5 os (adL [oc, s1, s2, s3, s4, s5]) t1, flW Γ 3 shX4 oc ac tc] := by rw [ht1]; exact Y
  have hw := hw t1 ht1
  refine lv_aload_n hx hb dX5_put_17 rfl (lv_at hl 0 rfl) ?_
  refine fl_get X Y 0 rfl fcX5 4 rfl (by decide) (X.2.2.2.2.1 _ q361) rfl dX5_put_18 ?_
  refine lv_iload_n hx hb dX5_put_21 rfl (lv_at hl 1 rfl) ?_
  refine lv_dup2_11 hx hb dX5_put_22 rfl rfl ?_
  refine fl_ald0 X Y 0 rfl 4 rfl hw.1 dX5_put_23 ?_
  have hw := hw.2
  refine lv_iconst (v := 1) hx hb dX5_put_24 rfl ?_
  refine lv_iadd hx hb dX5_put_25 ?_
  refine fl_ast0 X Y 0 rfl 4 rfl hw.1 dX5_put_26 (fun H locs Y => ?_)
  have hw := hw.2
  obtain ⟨t2, ht2⟩ : ∃ z : flT, z = (t1.1, va_up t1.2.1 4 (upd (t1.2.1 4) a1.toNatClampNeg ((t1.2.1 4 a1.toNatClampNeg) + 1)), t1.2.2) := ⟨_, rfl⟩
  have Y : Wo Γ A s H locs [flW Γ 4 shX5 os (adL [oc, s1, s2, s3, s4, s5]) t2, flW Γ 3 shX4 oc ac tc] := by rw [ht2]; exact Y
  have hw := hw t2 ht2
  refine lv_aload_n hx hb dX5_put_27 rfl (lv_at hl 0 rfl) ?_
  refine lv_dup hx hb dX5_put_28 rfl ?_
  refine fl_get X Y 0 rfl fcX5 8 rfl (by decide) (X.2.2.2.2.1 _ q370) rfl dX5_put_29 ?_
  refine lv_iconst (v := 1) hx hb dX5_put_32 rfl ?_
  refine lv_iadd hx hb dX5_put_33 ?_
  refine fl_put X Y 0 rfl fcX5 8 rfl (by decide) (X.2.2.2.2.1 _ q370) rfl rfl rfl dX5_put_34 (fun H locs Y => ?_)
  have Y : Wo Γ A s H locs [flW Γ 4 shX5 os (adL [oc, s1, s2, s3, s4, s5]) (upd t2.1 8 ((t2.1 8) + 1), t2.2), flW Γ 3 shX4 oc ac tc] := Y
  subst hQ
  exact re_v X Y hr hlk (upd t2.1 8 ((t2.1 8) + 1), t2.2) rfl hw (Nat.le_of_ble_eq_true rfl) (Nat.le_of_ble_eq_true rfl) dX5_put_37
def wpX5_take (K : (Int32) → (flT) → Prop)  (os : Nat) (oc : Nat) (s1 : Nat) (s2 : Nat) (s3 : Nat) (s4 : Nat) (s5 : Nat) (ts : flT) (ac : Nat → Nat) (tc : flT) (a1 : Int32) : Prop := wpX5_message (fun r1 => (vp_in a1 8 ∧ (vp_in a1 8 ∧ (∀ t2 : flT, t2 = (ts.1, va_up ts.2.1 4 (upd (ts.2.1 4) a1.toNatClampNeg ((ts.2.1 4 a1.toNatClampNeg) - 1)), ts.2.2) → (∃ I3 : Nat → (Int32) → (flT) → Prop, (∃ n, I3 n 0 t2) ∧ ∀ (n4 : Nat) (x5 : Int32) (t6 : flT), I3 n4 x5 t6 → (vp_in a1 8 ∧ (((t6.2.1 4 a1.toNatClampNeg) ≤ x5 → (vp_in a1 8 ∧ (vp_in (((6 : Int32) * a1) + (t6.2.1 4 a1.toNatClampNeg)) 48 ∧ (∀ t7 : flT, t7 = (t6.1, va_up t6.2.1 5 (upd (t6.2.1 5) (((6 : Int32) * a1) + (t6.2.1 4 a1.toNatClampNeg)).toNatClampNeg 0), t6.2.2) → (K r1 (upd t7.1 6 ((t7.1 6) + 1), t7.2)))))) ∧ (¬ (t6.2.1 4 a1.toNatClampNeg) ≤ x5 → (wpX5_message (fun r8 => (vp_in (((6 : Int32) * a1) + x5) 48 ∧ (∃ n9, n9 < n4 ∧ I3 n9 (x5 + 1) (t6.1, va_up t6.2.1 5 (upd (t6.2.1 5) (((6 : Int32) * a1) + x5).toNatClampNeg r8), t6.2.2))))  os oc s1 s2 s3 s4 s5 t6 ac tc a1 (x5 + 1))))))))))  os oc s1 s2 s3 s4 s5 ts ac tc a1 0
abbrev rmX5_take : Room := { frames := 1, cells := 0, slots := 0, locals := 22 }
theorem hdX5_take : yX5_take.cls ≠ "java/lang/invoke/MethodHandle" ∧ yX5_take.cls ≠ "java/lang/invoke/VarHandle" ∧ (parseMethodDescriptor yX5_take.desc).map (fun d => d.parameters.length) = some 1 := by decide +kernel
theorem hpX5_take : yX5_take.name ≠ "<init>" ∧ (parseMethodDescriptor yX5_take.desc).map (fun d => d.parameters.length) = some 1 := by decide +kernel
theorem huX5_take : RX5 ≠ "java/lang/invoke/MethodHandle" ∧ RX5 ≠ "java/lang/invoke/VarHandle" ∧ (parseMethodDescriptor yX5_take.desc).map (fun d => d.parameters.length) = some 1 := by decide +kernel
set_option maxHeartbeats 4000000 in
theorem mtX5_take {Γ : gT} {l : Launch} {os : Nat} {oc : Nat} {s1 : Nat} {s2 : Nat} {s3 : Nat} {s4 : Nat} {s5 : Nat} {ts : flT} {ac : Nat → Nat} {tc : flT} {a1 : Int32} {K : (Int32) → (flT) → Prop}  (hw : wpX5_take K  os oc s1 s2 s3 s4 s5 ts ac tc a1) : cI Γ l yX5_take (ws_ yX5_take cX5_take 4 (some .int)) rmX5_take E0 [.ref os, .int a1] [flW Γ 4 shX5 os (adL [oc, s1, s2, s3, s4, s5]) ts, flW Γ 3 shX4 oc ac tc] (fun u : (flT) => [flW Γ 4 shX5 os (adL [oc, s1, s2, s3, s4, s5]) u, flW Γ 3 shX4 oc ac tc]) (fun r u => K r u) := by
  refine cI_of (by decide +kernel) (Nat.le_of_ble_eq_true rfl) ?_
  intro p e s m args below meth c ls A Q hQ X hr hlk hnm hE Y hl
  have hx := X.1
  have hb := X.2.1
  have hl : lv_has ls 4 [(0, .ref os), (1, .int a1)] := hl
  unfold wpX5_take at hw
  obtain ⟨H, hH⟩ : ∃ H : Heap, H = s.heap := ⟨_, rfl⟩
  obtain ⟨locs, hlo⟩ : ∃ locs : List Loc, locs = [] := ⟨_, rfl⟩
  rw [← hH, ← hlo] at Y
  rw [← hH, ← hlo]
  refine lv_aload_n hx hb dX5_take_0 rfl (lv_at hl 0 rfl) ?_
  refine lv_iload_n hx hb dX5_take_1 rfl (lv_at hl 1 rfl) ?_
  refine lv_iconst (v := 0) hx hb dX5_take_2 rfl ?_
  refine cv_VI X Y [0, 1] [] rfl rfl rfl E0_bl (fun _ _ _ => trivial) (mtX5_message (Γ := Γ) (l := l) hw) (lw_V q590 q591 q592 q144 q593) ⟨rfl, hdX5_message⟩ ⟨Nat.le_of_ble_eq_true rfl, Nat.le_of_ble_eq_true rfl⟩ (ob_cell X Y (b := 0) rfl List.mem_cons_self fcX5) rfl hl.1 rfl (Nat.le_of_ble_eq_true rfl) dX5_take_3 ⟨Nat.le_of_ble_eq_true rfl, Nat.le_of_ble_eq_true rfl⟩ (fun r1 u H locs hw Y => ?_)
  have Y : Wo Γ A s H locs [flW Γ 4 shX5 os (adL [oc, s1, s2, s3, s4, s5]) ts, flW Γ 3 shX4 oc ac tc] := Y
  refine lv_istore_n (lv' := [(2, .int r1), (0, .ref os), (1, .int a1)]) hx hb dX5_take_6 rfl hl (by decide) rfl (fun ls hl => ?_)
  refine lv_aload_n hx hb dX5_take_7 rfl (lv_at hl 1 rfl) ?_
  refine fl_get X Y 0 rfl fcX5 4 rfl (by decide) (X.2.2.2.2.1 _ q361) rfl dX5_take_8 ?_
  refine lv_iload_n hx hb dX5_take_11 rfl (lv_at hl 2 rfl) ?_
  refine lv_dup2_11 hx hb dX5_take_12 rfl rfl ?_
  refine fl_ald0 X Y 0 rfl 4 rfl hw.1 dX5_take_13 ?_
  have hw := hw.2
  refine lv_iconst (v := 1) hx hb dX5_take_14 rfl ?_
  refine lv_isub hx hb dX5_take_15 ?_
  refine fl_ast0 X Y 0 rfl 4 rfl hw.1 dX5_take_16 (fun H locs Y => ?_)
  have hw := hw.2
  obtain ⟨t2, ht2⟩ : ∃ z : flT, z = (ts.1, va_up ts.2.1 4 (upd (ts.2.1 4) a1.toNatClampNeg ((ts.2.1 4 a1.toNatClampNeg) - 1)), ts.2.2) := ⟨_, rfl⟩
  have Y : Wo Γ A s H locs [flW Γ 4 shX5 os (adL [oc, s1, s2, s3, s4, s5]) t2, flW Γ 3 shX4 oc ac tc] := by rw [ht2]; exact Y
  have hw := hw t2 ht2
  refine lv_iconst (v := 0) hx hb dX5_take_17 rfl ?_
  refine lv_istore_n (lv' := [(3, .int 0), (2, .int r1), (0, .ref os), (1, .int a1)]) hx hb dX5_take_18 rfl hl (by decide) rfl (fun ls hl => ?_)
  obtain ⟨I3, hw0, hwI⟩ := hw
  have hI3 : ∀ (n4 : Nat) (x5 : Int32) (t6 : flT) (H : Heap) (locs : List Loc) (ls : Array Slot), I3 n4 x5 t6 → Wo Γ A s H locs [flW Γ 4 shX5 os (adL [oc, s1, s2, s3, s4, s5]) t6, flW Γ 3 shX4 oc ac tc] → lv_has ls 4 [(0, .ref os), (1, .int a1), (2, .int r1), (3, .int x5)] → W p l e rmX5_take s m args below meth c H locs 0 0 Q (F0 m 19 ls []) := by
    intro n4
    induction n4 using Nat.strongRecOn with
    | ind n4 ihn4 =>
      intro x5 t6 H locs ls hw Y hl
      have hw := hwI n4 x5 t6 hw
      refine lv_iload_n hx hb dX5_take_19 rfl (lv_at hl 3 rfl) ?_
      refine lv_aload_n hx hb dX5_take_20 rfl (lv_at hl 0 rfl) ?_
      refine fl_get X Y 0 rfl fcX5 4 rfl (by decide) (X.2.2.2.2.1 _ q361) rfl dX5_take_21 ?_
      refine lv_iload_n hx hb dX5_take_24 rfl (lv_at hl 1 rfl) ?_
      refine fl_ald0 X Y 0 rfl 4 rfl hw.1 dX5_take_25 ?_
      have hw := hw.2
      refine lv_icmp_ge (tgt := 54) hx hb dX5_take_26 (by decide) (fun hc => ?_) (fun hc => ?_)
      · have hw := hw.1 hc
        refine lv_aload_n hx hb dX5_take_54 rfl (lv_at hl 0 rfl) ?_
        refine fl_get X Y 0 rfl fcX5 5 rfl (by decide) (X.2.2.2.2.1 _ q364) rfl dX5_take_55 ?_
        refine lv_bipush (v := 6) hx hb dX5_take_58 rfl ?_
        refine lv_iload_n hx hb dX5_take_60 rfl (lv_at hl 1 rfl) ?_
        refine lv_imul hx hb dX5_take_61 ?_
        refine lv_aload_n hx hb dX5_take_62 rfl (lv_at hl 0 rfl) ?_
        refine fl_get X Y 0 rfl fcX5 4 rfl (by decide) (X.2.2.2.2.1 _ q361) rfl dX5_take_63 ?_
        refine lv_iload_n hx hb dX5_take_66 rfl (lv_at hl 1 rfl) ?_
        refine fl_ald0 X Y 0 rfl 4 rfl hw.1 dX5_take_67 ?_
        have hw := hw.2
        refine lv_iadd hx hb dX5_take_68 ?_
        refine lv_iconst (v := 0) hx hb dX5_take_69 rfl ?_
        refine fl_ast0 X Y 0 rfl 5 rfl hw.1 dX5_take_70 (fun H locs Y => ?_)
        have hw := hw.2
        obtain ⟨t7, ht7⟩ : ∃ z : flT, z = (t6.1, va_up t6.2.1 5 (upd (t6.2.1 5) (((6 : Int32) * a1) + (t6.2.1 4 a1.toNatClampNeg)).toNatClampNeg 0), t6.2.2) := ⟨_, rfl⟩
        have Y : Wo Γ A s H locs [flW Γ 4 shX5 os (adL [oc, s1, s2, s3, s4, s5]) t7, flW Γ 3 shX4 oc ac tc] := by rw [ht7]; exact Y
        have hw := hw t7 ht7
        refine lv_aload_n hx hb dX5_take_71 rfl (lv_at hl 0 rfl) ?_
        refine lv_dup hx hb dX5_take_72 rfl ?_
        refine fl_get X Y 0 rfl fcX5 6 rfl (by decide) (X.2.2.2.2.1 _ q365) rfl dX5_take_73 ?_
        refine lv_iconst (v := 1) hx hb dX5_take_76 rfl ?_
        refine lv_iadd hx hb dX5_take_77 ?_
        refine fl_put X Y 0 rfl fcX5 6 rfl (by decide) (X.2.2.2.2.1 _ q365) rfl rfl rfl dX5_take_78 (fun H locs Y => ?_)
        have Y : Wo Γ A s H locs [flW Γ 4 shX5 os (adL [oc, s1, s2, s3, s4, s5]) (upd t7.1 6 ((t7.1 6) + 1), t7.2), flW Γ 3 shX4 oc ac tc] := Y
        refine lv_iload_n hx hb dX5_take_81 rfl (lv_at hl 2 rfl) ?_
        subst hQ
        exact re_i X Y hr hlk (upd t7.1 6 ((t7.1 6) + 1), t7.2) rfl rfl hw (Nat.le_of_ble_eq_true rfl) (Nat.le_of_ble_eq_true rfl) dX5_take_82
      · have hw := hw.2 hc
        refine lv_aload_n hx hb dX5_take_29 rfl (lv_at hl 0 rfl) ?_
        refine fl_get X Y 0 rfl fcX5 5 rfl (by decide) (X.2.2.2.2.1 _ q364) rfl dX5_take_30 ?_
        refine lv_bipush (v := 6) hx hb dX5_take_33 rfl ?_
        refine lv_iload_n hx hb dX5_take_35 rfl (lv_at hl 1 rfl) ?_
        refine lv_imul hx hb dX5_take_36 ?_
        refine lv_iload_n hx hb dX5_take_37 rfl (lv_at hl 3 rfl) ?_
        refine lv_iadd hx hb dX5_take_38 ?_
        refine lv_aload_n hx hb dX5_take_39 rfl (lv_at hl 0 rfl) ?_
        refine lv_iload_n hx hb dX5_take_40 rfl (lv_at hl 1 rfl) ?_
        refine lv_iload_n hx hb dX5_take_41 rfl (lv_at hl 3 rfl) ?_
        refine lv_iconst (v := 1) hx hb dX5_take_42 rfl ?_
        refine lv_iadd hx hb dX5_take_43 ?_
        refine cv_VI X Y [0, 1] [] rfl rfl rfl E0_bl (fun _ _ _ => trivial) (mtX5_message (Γ := Γ) (l := l) hw) (lw_V q590 q591 q592 q144 q593) ⟨rfl, hdX5_message⟩ ⟨Nat.le_of_ble_eq_true rfl, Nat.le_of_ble_eq_true rfl⟩ (ob_cell X Y (b := 0) rfl List.mem_cons_self fcX5) rfl hl.1 rfl (Nat.le_of_ble_eq_true rfl) dX5_take_44 ⟨Nat.le_of_ble_eq_true rfl, Nat.le_of_ble_eq_true rfl⟩ (fun r8 u H locs hw Y => ?_)
        have Y : Wo Γ A s H locs [flW Γ 4 shX5 os (adL [oc, s1, s2, s3, s4, s5]) t6, flW Γ 3 shX4 oc ac tc] := Y
        refine fl_ast0 X Y 0 rfl 5 rfl hw.1 dX5_take_47 (fun H locs Y => ?_)
        have hw := hw.2
        have Y : Wo Γ A s H locs [flW Γ 4 shX5 os (adL [oc, s1, s2, s3, s4, s5]) (t6.1, va_up t6.2.1 5 (upd (t6.2.1 5) (((6 : Int32) * a1) + x5).toNatClampNeg r8), t6.2.2), flW Γ 3 shX4 oc ac tc] := Y
        refine lv_iinc (v := x5 + 1) (lv' := [(3, .int (x5 + 1)), (0, .ref os), (1, .int a1), (2, .int r1)]) hx hb dX5_take_48 hl (k := 3) rfl rfl (by decide) rfl (fun ls hl => ?_)
        refine lv_goto (tgt := 19) hx hb dX5_take_51 (by decide) ?_
        obtain ⟨n9, hlt, hw⟩ := hw
        exact ihn4 n9 hlt (x5 + 1) (t6.1, va_up t6.2.1 5 (upd (t6.2.1 5) (((6 : Int32) * a1) + x5).toNatClampNeg r8), t6.2.2) H locs ls hw Y (lv_sub hl [1, 2, 3, 0] rfl)
  obtain ⟨n0, hw0⟩ := hw0
  exact hI3 n0 0 t2 H locs ls hw0 Y (lv_sub hl [2, 3, 1, 0] rfl)
def wpX5_inMailboxes (K : (Int32) → Prop)  (os : Nat) (oc : Nat) (s1 : Nat) (s2 : Nat) (s3 : Nat) (s4 : Nat) (s5 : Nat) (ts : flT) (ac : Nat → Nat) (tc : flT) : Prop := ∃ I1 : Nat → (Int32) → (Int32) → Prop, (∃ n, I1 n 0 0) ∧ ∀ (n2 : Nat) (x3 : Int32) (x4 : Int32), I1 n2 x3 x4 → (((nI 8) ≤ x4 → (K x3)) ∧ (¬ (nI 8) ≤ x4 → (vp_in x4 8 ∧ (∃ n5, n5 < n2 ∧ I1 n5 (x3 + (ts.2.1 4 x4.toNatClampNeg)) (x4 + 1)))))
abbrev rmX5_inMailboxes : Room := { frames := 0, cells := 0, slots := 0, locals := 0 }
theorem hdX5_inMailboxes : yX5_inMailboxes.cls ≠ "java/lang/invoke/MethodHandle" ∧ yX5_inMailboxes.cls ≠ "java/lang/invoke/VarHandle" ∧ (parseMethodDescriptor yX5_inMailboxes.desc).map (fun d => d.parameters.length) = some 0 := by decide +kernel
theorem hpX5_inMailboxes : yX5_inMailboxes.name ≠ "<init>" ∧ (parseMethodDescriptor yX5_inMailboxes.desc).map (fun d => d.parameters.length) = some 0 := by decide +kernel
theorem huX5_inMailboxes : RX5 ≠ "java/lang/invoke/MethodHandle" ∧ RX5 ≠ "java/lang/invoke/VarHandle" ∧ (parseMethodDescriptor yX5_inMailboxes.desc).map (fun d => d.parameters.length) = some 0 := by decide +kernel
set_option maxHeartbeats 4000000 in
theorem mtX5_inMailboxes {Γ : gT} {l : Launch} {os : Nat} {oc : Nat} {s1 : Nat} {s2 : Nat} {s3 : Nat} {s4 : Nat} {s5 : Nat} {ts : flT} {ac : Nat → Nat} {tc : flT} {K : (Int32) → Prop}  (hw : wpX5_inMailboxes K  os oc s1 s2 s3 s4 s5 ts ac tc) : cI Γ l yX5_inMailboxes (ws_ yX5_inMailboxes cX5_inMailboxes 6 (some .int)) rmX5_inMailboxes E0 [.ref os] [flW Γ 4 shX5 os (adL [oc, s1, s2, s3, s4, s5]) ts, flW Γ 3 shX4 oc ac tc] (fun u : Unit => [flW Γ 4 shX5 os (adL [oc, s1, s2, s3, s4, s5]) ts, flW Γ 3 shX4 oc ac tc]) (fun r u => K r ) := by
  refine cI_of (by decide +kernel) (Nat.le_of_ble_eq_true rfl) ?_
  intro p e s m args below meth c ls A Q hQ X hr hlk hnm hE Y hl
  have hx := X.1
  have hb := X.2.1
  have hl : lv_has ls 6 [(0, .ref os)] := hl
  unfold wpX5_inMailboxes at hw
  obtain ⟨H, hH⟩ : ∃ H : Heap, H = s.heap := ⟨_, rfl⟩
  obtain ⟨locs, hlo⟩ : ∃ locs : List Loc, locs = [] := ⟨_, rfl⟩
  rw [← hH, ← hlo] at Y
  rw [← hH, ← hlo]
  refine lv_iconst (v := 0) hx hb dX5_inMailboxes_0 rfl ?_
  refine lv_istore_n (lv' := [(1, .int 0), (0, .ref os)]) hx hb dX5_inMailboxes_1 rfl hl (by decide) rfl (fun ls hl => ?_)
  refine lv_aload_n hx hb dX5_inMailboxes_2 rfl (lv_at hl 1 rfl) ?_
  refine fl_get X Y 0 rfl fcX5 4 rfl (by decide) (X.2.2.2.2.1 _ q361) rfl dX5_inMailboxes_3 ?_
  refine lv_astore_n (lv' := [(2, .ref ((adL [oc, s1, s2, s3, s4, s5]) 4)), (1, .int 0), (0, .ref os)]) hx hb dX5_inMailboxes_6 rfl hl (by decide) rfl (fun ls hl => ?_)
  refine lv_aload_n hx hb dX5_inMailboxes_7 rfl (lv_at hl 0 rfl) ?_
  refine fl_alen (t := 0) X Y 0 rfl 4 rfl rfl dX5_inMailboxes_8 ?_
  refine lv_istore_n (lv' := [(3, .int (nI 8)), (2, .ref ((adL [oc, s1, s2, s3, s4, s5]) 4)), (1, .int 0), (0, .ref os)]) hx hb dX5_inMailboxes_9 rfl hl (by decide) rfl (fun ls hl => ?_)
  refine lv_iconst (v := 0) hx hb dX5_inMailboxes_10 rfl ?_
  refine lv_istore (lv' := [(4, .int 0), (3, .int (nI 8)), (2, .ref ((adL [oc, s1, s2, s3, s4, s5]) 4)), (1, .int 0), (0, .ref os)]) hx hb dX5_inMailboxes_11 hl (by decide) rfl (fun ls hl => ?_)
  obtain ⟨I1, hw0, hwI⟩ := hw
  have hI1 : ∀ (n2 : Nat) (x3 : Int32) (x4 : Int32) (H : Heap) (locs : List Loc) (ls : Array Slot), I1 n2 x3 x4 → Wo Γ A s H locs [flW Γ 4 shX5 os (adL [oc, s1, s2, s3, s4, s5]) ts, flW Γ 3 shX4 oc ac tc] → lv_has ls 6 [(1, .int x3), (2, .ref ((adL [oc, s1, s2, s3, s4, s5]) 4)), (3, .int (nI 8)), (4, .int x4)] → W p l e rmX5_inMailboxes s m args below meth c H locs 0 0 Q (F0 m 13 ls []) := by
    intro n2
    induction n2 using Nat.strongRecOn with
    | ind n2 ihn2 =>
      intro x3 x4 H locs ls hw Y hl
      have hw := hwI n2 x3 x4 hw
      refine lv_iload hx hb dX5_inMailboxes_13 (lv_at hl 3 rfl) ?_
      refine lv_iload_n hx hb dX5_inMailboxes_15 rfl (lv_at hl 2 rfl) ?_
      refine lv_icmp_ge (tgt := 36) hx hb dX5_inMailboxes_16 (by decide) (fun hc => ?_) (fun hc => ?_)
      · have hw := hw.1 hc
        refine lv_iload_n hx hb dX5_inMailboxes_36 rfl (lv_at hl 0 rfl) ?_
        subst hQ
        exact re_i X Y hr hlk () rfl rfl hw (Nat.le_of_ble_eq_true rfl) (Nat.le_of_ble_eq_true rfl) dX5_inMailboxes_37
      · have hw := hw.2 hc
        refine lv_aload_n hx hb dX5_inMailboxes_19 rfl (lv_at hl 1 rfl) ?_
        refine lv_iload hx hb dX5_inMailboxes_20 (lv_at hl 3 rfl) ?_
        refine fl_ald0 X Y 0 rfl 4 rfl hw.1 dX5_inMailboxes_22 ?_
        have hw := hw.2
        refine lv_istore (lv' := [(5, .int (ts.2.1 4 x4.toNatClampNeg)), (1, .int x3), (2, .ref ((adL [oc, s1, s2, s3, s4, s5]) 4)), (3, .int (nI 8)), (4, .int x4)]) hx hb dX5_inMailboxes_23 hl (by decide) rfl (fun ls hl => ?_)
        refine lv_iload_n hx hb dX5_inMailboxes_25 rfl (lv_at hl 1 rfl) ?_
        refine lv_iload hx hb dX5_inMailboxes_26 (lv_at hl 0 rfl) ?_
        refine lv_iadd hx hb dX5_inMailboxes_28 ?_
        refine lv_istore_n (lv' := [(1, .int (x3 + (ts.2.1 4 x4.toNatClampNeg))), (5, .int (ts.2.1 4 x4.toNatClampNeg)), (2, .ref ((adL [oc, s1, s2, s3, s4, s5]) 4)), (3, .int (nI 8)), (4, .int x4)]) hx hb dX5_inMailboxes_29 rfl hl (by decide) rfl (fun ls hl => ?_)
        refine lv_iinc (v := x4 + 1) (lv' := [(4, .int (x4 + 1)), (1, .int (x3 + (ts.2.1 4 x4.toNatClampNeg))), (5, .int (ts.2.1 4 x4.toNatClampNeg)), (2, .ref ((adL [oc, s1, s2, s3, s4, s5]) 4)), (3, .int (nI 8))]) hx hb dX5_inMailboxes_30 hl (k := 4) rfl rfl (by decide) rfl (fun ls hl => ?_)
        refine lv_goto (tgt := 13) hx hb dX5_inMailboxes_33 (by decide) ?_
        obtain ⟨n5, hlt, hw⟩ := hw
        exact ihn2 n5 hlt (x3 + (ts.2.1 4 x4.toNatClampNeg)) (x4 + 1) H locs ls hw Y (lv_sub hl [1, 3, 4, 0] rfl)
  obtain ⟨n0, hw0⟩ := hw0
  exact hI1 n0 0 0 H locs ls hw0 Y (lv_sub hl [3, 2, 1, 0] rfl)
def wpX5_hasMessage (K : (Int32) → Prop)  (os : Nat) (oc : Nat) (s1 : Nat) (s2 : Nat) (s3 : Nat) (s4 : Nat) (s5 : Nat) (ts : flT) (ac : Nat → Nat) (tc : flT) (a1 : Int32) : Prop := vp_in a1 8 ∧ (((ts.2.1 3 a1.toNatClampNeg) = 0 → (vp_in a1 8 ∧ (((ts.2.1 4 a1.toNatClampNeg) ≤ 0 → (K 0)) ∧ (¬ (ts.2.1 4 a1.toNatClampNeg) ≤ 0 → (K 1))))) ∧ (¬ (ts.2.1 3 a1.toNatClampNeg) = 0 → (K 0)))
abbrev rmX5_hasMessage : Room := { frames := 0, cells := 0, slots := 0, locals := 0 }
theorem hdX5_hasMessage : yX5_hasMessage.cls ≠ "java/lang/invoke/MethodHandle" ∧ yX5_hasMessage.cls ≠ "java/lang/invoke/VarHandle" ∧ (parseMethodDescriptor yX5_hasMessage.desc).map (fun d => d.parameters.length) = some 1 := by decide +kernel
theorem hpX5_hasMessage : yX5_hasMessage.name ≠ "<init>" ∧ (parseMethodDescriptor yX5_hasMessage.desc).map (fun d => d.parameters.length) = some 1 := by decide +kernel
theorem huX5_hasMessage : RX5 ≠ "java/lang/invoke/MethodHandle" ∧ RX5 ≠ "java/lang/invoke/VarHandle" ∧ (parseMethodDescriptor yX5_hasMessage.desc).map (fun d => d.parameters.length) = some 1 := by decide +kernel
set_option maxHeartbeats 4000000 in
theorem mtX5_hasMessage {Γ : gT} {l : Launch} {os : Nat} {oc : Nat} {s1 : Nat} {s2 : Nat} {s3 : Nat} {s4 : Nat} {s5 : Nat} {ts : flT} {ac : Nat → Nat} {tc : flT} {a1 : Int32} {K : (Int32) → Prop}  (hw : wpX5_hasMessage K  os oc s1 s2 s3 s4 s5 ts ac tc a1) : cI Γ l yX5_hasMessage (ws_ yX5_hasMessage cX5_hasMessage 2 (some .boolean)) rmX5_hasMessage E0 [.ref os, .int a1] [flW Γ 4 shX5 os (adL [oc, s1, s2, s3, s4, s5]) ts, flW Γ 3 shX4 oc ac tc] (fun u : Unit => [flW Γ 4 shX5 os (adL [oc, s1, s2, s3, s4, s5]) ts, flW Γ 3 shX4 oc ac tc]) (fun r u => K r ) := by
  refine cI_of (by decide +kernel) (Nat.le_of_ble_eq_true rfl) ?_
  intro p e s m args below meth c ls A Q hQ X hr hlk hnm hE Y hl
  have hx := X.1
  have hb := X.2.1
  have hl : lv_has ls 2 [(0, .ref os), (1, .int a1)] := hl
  unfold wpX5_hasMessage at hw
  obtain ⟨H, hH⟩ : ∃ H : Heap, H = s.heap := ⟨_, rfl⟩
  obtain ⟨locs, hlo⟩ : ∃ locs : List Loc, locs = [] := ⟨_, rfl⟩
  rw [← hH, ← hlo] at Y
  rw [← hH, ← hlo]
  refine lv_aload_n hx hb dX5_hasMessage_0 rfl (lv_at hl 0 rfl) ?_
  refine fl_get X Y 0 rfl fcX5 3 rfl (by decide) (X.2.2.2.2.1 _ q358) rfl dX5_hasMessage_1 ?_
  refine lv_iload_n hx hb dX5_hasMessage_4 rfl (lv_at hl 1 rfl) ?_
  refine fl_ald2 X Y 0 rfl 3 rfl hw.1 dX5_hasMessage_5 ?_
  have hw := hw.2
  refine lv_if_ne (tgt := 22) hx hb dX5_hasMessage_6 (by decide) (fun hc => ?_) (fun hc => ?_)
  · have hw := hw.2 hc
    refine lv_iconst (v := 0) hx hb dX5_hasMessage_22 rfl ?_
    subst hQ
    exact re_i X Y hr hlk () rfl rfl hw (Nat.le_of_ble_eq_true rfl) (Nat.le_of_ble_eq_true rfl) dX5_hasMessage_23
  · have hw := hw.1 hc
    refine lv_aload_n hx hb dX5_hasMessage_9 rfl (lv_at hl 0 rfl) ?_
    refine fl_get X Y 0 rfl fcX5 4 rfl (by decide) (X.2.2.2.2.1 _ q361) rfl dX5_hasMessage_10 ?_
    refine lv_iload_n hx hb dX5_hasMessage_13 rfl (lv_at hl 1 rfl) ?_
    refine fl_ald0 X Y 0 rfl 4 rfl hw.1 dX5_hasMessage_14 ?_
    have hw := hw.2
    refine lv_if_le (tgt := 22) hx hb dX5_hasMessage_15 (by decide) (fun hc => ?_) (fun hc => ?_)
    · have hw := hw.1 hc
      refine lv_iconst (v := 0) hx hb dX5_hasMessage_22 rfl ?_
      subst hQ
      exact re_i X Y hr hlk () rfl rfl hw (Nat.le_of_ble_eq_true rfl) (Nat.le_of_ble_eq_true rfl) dX5_hasMessage_23
    · have hw := hw.2 hc
      refine lv_iconst (v := 1) hx hb dX5_hasMessage_18 rfl ?_
      refine lv_goto (tgt := 23) hx hb dX5_hasMessage_19 (by decide) ?_
      subst hQ
      exact re_i X Y hr hlk () rfl rfl hw (Nat.le_of_ble_eq_true rfl) (Nat.le_of_ble_eq_true rfl) dX5_hasMessage_23
def wpX5_hasToWait (Γ : gT) (K : (Int32) → Prop)  (os : Nat) (oc : Nat) (s1 : Nat) (s2 : Nat) (s3 : Nat) (s4 : Nat) (s5 : Nat) (ts : flT) (ac : Nat → Nat) (tc : flT) (a1 : Int32) : Prop := vp_in a1 8 ∧ (wpX5_hasMessage (fun r1 => (∃ J2 : (Int32) → Prop, (∀ (x3 : Int32), J2 x3 → ((x3 = 0 → (K 0)) ∧ (¬ x3 = 0 → (((tc.2.1 5 a1.toNatClampNeg) = a1 → (K 0)) ∧ (¬ (tc.2.1 5 a1.toNatClampNeg) = a1 → (vp_in (tc.2.1 5 a1.toNatClampNeg) 8 ∧ (((ts.2.1 3 (tc.2.1 5 a1.toNatClampNeg).toNatClampNeg) = 0 → (wpX5_isFull (fun r4 => ((r4 = 0 → (K 0)) ∧ (¬ r4 = 0 → (K 1))))  os oc s1 s2 s3 s4 s5 ts ac tc (tc.2.1 5 a1.toNatClampNeg))) ∧ (¬ (ts.2.1 3 (tc.2.1 5 a1.toNatClampNeg).toNatClampNeg) = 0 → (K 0))))))))) ∧ (∃ J5 : Prop, (J5 → (J2 0)) ∧ ((r1 = 0 → (J5)) ∧ (¬ r1 = 0 → (wpX4_isForwarder Γ (fun r6 => ((r6 = 0 → (J5)) ∧ (¬ r6 = 0 → (wpX5_message (fun r7 => ((2 ≤ (r7 - r7 / 4 * 4) → (J5)) ∧ (¬ 2 ≤ (r7 - r7 / 4 * 4) → (J2 1))))  os oc s1 s2 s3 s4 s5 ts ac tc a1 0))))  oc ac tc a1))))))  os oc s1 s2 s3 s4 s5 ts ac tc a1)
abbrev rmX5_hasToWait : Room := { frames := 5, cells := 0, slots := 0, locals := 112 }
theorem hdX5_hasToWait : yX5_hasToWait.cls ≠ "java/lang/invoke/MethodHandle" ∧ yX5_hasToWait.cls ≠ "java/lang/invoke/VarHandle" ∧ (parseMethodDescriptor yX5_hasToWait.desc).map (fun d => d.parameters.length) = some 1 := by decide +kernel
theorem hpX5_hasToWait : yX5_hasToWait.name ≠ "<init>" ∧ (parseMethodDescriptor yX5_hasToWait.desc).map (fun d => d.parameters.length) = some 1 := by decide +kernel
theorem huX5_hasToWait : RX5 ≠ "java/lang/invoke/MethodHandle" ∧ RX5 ≠ "java/lang/invoke/VarHandle" ∧ (parseMethodDescriptor yX5_hasToWait.desc).map (fun d => d.parameters.length) = some 1 := by decide +kernel
set_option maxHeartbeats 4000000 in
theorem mtX5_hasToWait {Γ : gT} {l : Launch} {os : Nat} {oc : Nat} {s1 : Nat} {s2 : Nat} {s3 : Nat} {s4 : Nat} {s5 : Nat} {ts : flT} {ac : Nat → Nat} {tc : flT} {a1 : Int32} {K : (Int32) → Prop}  (hw : wpX5_hasToWait Γ K  os oc s1 s2 s3 s4 s5 ts ac tc a1) : cI Γ l yX5_hasToWait (ws_ yX5_hasToWait cX5_hasToWait 4 (some .boolean)) rmX5_hasToWait (eN Γ) [.ref os, .int a1] [flW Γ 4 shX5 os (adL [oc, s1, s2, s3, s4, s5]) ts, flW Γ 3 shX4 oc ac tc] (fun u : Unit => [flW Γ 4 shX5 os (adL [oc, s1, s2, s3, s4, s5]) ts, flW Γ 3 shX4 oc ac tc]) (fun r u => K r ) := by
  refine cI_of (by decide +kernel) (Nat.le_of_ble_eq_true rfl) ?_
  intro p e s m args below meth c ls A Q hQ X hr hlk hnm hE Y hl
  have hx := X.1
  have hb := X.2.1
  have hl : lv_has ls 4 [(0, .ref os), (1, .int a1)] := hl
  unfold wpX5_hasToWait at hw
  obtain ⟨H, hH⟩ : ∃ H : Heap, H = s.heap := ⟨_, rfl⟩
  obtain ⟨locs, hlo⟩ : ∃ locs : List Loc, locs = [] := ⟨_, rfl⟩
  rw [← hH, ← hlo] at Y
  rw [← hH, ← hlo]
  refine lv_aload_n hx hb dX5_hasToWait_0 rfl (lv_at hl 0 rfl) ?_
  refine fl_get X Y 0 rfl fcX5 0 rfl (by decide) (X.2.2.2.2.1 _ q351) rfl dX5_hasToWait_1 ?_
  refine fl_getN X Y 1 rfl fcX4 5 rfl (by decide) q321 rfl dX5_hasToWait_4 ?_
  refine lv_iload_n hx hb dX5_hasToWait_7 rfl (lv_at hl 1 rfl) ?_
  refine fl_ald0 X Y 1 rfl 5 rfl hw.1 dX5_hasToWait_8 ?_
  have hw := hw.2
  refine lv_istore_n (lv' := [(2, .int (tc.2.1 5 a1.toNatClampNeg)), (0, .ref os), (1, .int a1)]) hx hb dX5_hasToWait_9 rfl hl (by decide) rfl (fun ls hl => ?_)
  refine lv_aload_n hx hb dX5_hasToWait_10 rfl (lv_at hl 1 rfl) ?_
  refine lv_iload_n hx hb dX5_hasToWait_11 rfl (lv_at hl 2 rfl) ?_
  refine cv_VI X Y [0, 1] [] rfl rfl rfl E0_bl (fun _ _ _ => trivial) (mtX5_hasMessage (Γ := Γ) (l := l) hw) (lw_V q496 q498 qs0 q144 q499) ⟨rfl, hdX5_hasMessage⟩ ⟨Nat.le_of_ble_eq_true rfl, Nat.le_of_ble_eq_true rfl⟩ (ob_cell X Y (b := 0) rfl List.mem_cons_self fcX5) rfl hl.1 rfl (Nat.le_of_ble_eq_true rfl) dX5_hasToWait_12 ⟨Nat.le_of_ble_eq_true rfl, Nat.le_of_ble_eq_true rfl⟩ (fun r1 u H locs hw Y => ?_)
  have Y : Wo Γ A s H locs [flW Γ 4 shX5 os (adL [oc, s1, s2, s3, s4, s5]) ts, flW Γ 3 shX4 oc ac tc] := Y
  obtain ⟨J2, hwR, hw⟩ := hw
  have hJ2 : ∀ (x3 : Int32) (H : Heap) (locs : List Loc) (ls : Array Slot), J2 x3 → Wo Γ A s H locs [flW Γ 4 shX5 os (adL [oc, s1, s2, s3, s4, s5]) ts, flW Γ 3 shX4 oc ac tc] → lv_has ls 4 [(0, .ref os), (1, .int a1), (2, .int (tc.2.1 5 a1.toNatClampNeg))] → W p l e rmX5_hasToWait s m args below meth c H locs 0 0 Q (F0 m 46 ls [.int x3]) := by
    intro x3 H locs ls hw Y hl
    have hw := hwR x3 hw
    refine lv_istore_n (lv' := [(3, .int x3), (0, .ref os), (1, .int a1), (2, .int (tc.2.1 5 a1.toNatClampNeg))]) hx hb dX5_hasToWait_46 rfl hl (by decide) rfl (fun ls hl => ?_)
    refine lv_iload_n hx hb dX5_hasToWait_47 rfl (lv_at hl 0 rfl) ?_
    refine lv_if_eq (tgt := 77) hx hb dX5_hasToWait_48 (by decide) (fun hc => ?_) (fun hc => ?_)
    · have hw := hw.1 hc
      refine lv_iconst (v := 0) hx hb dX5_hasToWait_77 rfl ?_
      subst hQ
      exact re_i X Y hr hlk () rfl rfl hw (Nat.le_of_ble_eq_true rfl) (Nat.le_of_ble_eq_true rfl) dX5_hasToWait_78
    · have hw := hw.2 hc
      refine lv_iload_n hx hb dX5_hasToWait_51 rfl (lv_at hl 3 rfl) ?_
      refine lv_iload_n hx hb dX5_hasToWait_52 rfl (lv_at hl 2 rfl) ?_
      refine lv_icmp_eq (tgt := 77) hx hb dX5_hasToWait_53 (by decide) (fun hc => ?_) (fun hc => ?_)
      · have hw := hw.1 hc
        refine lv_iconst (v := 0) hx hb dX5_hasToWait_77 rfl ?_
        subst hQ
        exact re_i X Y hr hlk () rfl rfl hw (Nat.le_of_ble_eq_true rfl) (Nat.le_of_ble_eq_true rfl) dX5_hasToWait_78
      · have hw := hw.2 hc
        refine lv_aload_n hx hb dX5_hasToWait_56 rfl (lv_at hl 1 rfl) ?_
        refine fl_get X Y 0 rfl fcX5 3 rfl (by decide) (X.2.2.2.2.1 _ q358) rfl dX5_hasToWait_57 ?_
        refine lv_iload_n hx hb dX5_hasToWait_60 rfl (lv_at hl 3 rfl) ?_
        refine fl_ald2 X Y 0 rfl 3 rfl hw.1 dX5_hasToWait_61 ?_
        have hw := hw.2
        refine lv_if_ne (tgt := 77) hx hb dX5_hasToWait_62 (by decide) (fun hc => ?_) (fun hc => ?_)
        · have hw := hw.2 hc
          refine lv_iconst (v := 0) hx hb dX5_hasToWait_77 rfl ?_
          subst hQ
          exact re_i X Y hr hlk () rfl rfl hw (Nat.le_of_ble_eq_true rfl) (Nat.le_of_ble_eq_true rfl) dX5_hasToWait_78
        · have hw := hw.1 hc
          refine lv_aload_n hx hb dX5_hasToWait_65 rfl (lv_at hl 1 rfl) ?_
          refine lv_iload_n hx hb dX5_hasToWait_66 rfl (lv_at hl 3 rfl) ?_
          refine cv_VI X Y [0, 1] [] rfl rfl rfl E0_bl (fun _ _ _ => trivial) (mtX5_isFull (Γ := Γ) (l := l) hw) (lw_V q594 q596 qs1 q144 q597) ⟨rfl, hdX5_isFull⟩ ⟨Nat.le_of_ble_eq_true rfl, Nat.le_of_ble_eq_true rfl⟩ (ob_cell X Y (b := 0) rfl List.mem_cons_self fcX5) rfl hl.1 rfl (Nat.le_of_ble_eq_true rfl) dX5_hasToWait_67 ⟨Nat.le_of_ble_eq_true rfl, Nat.le_of_ble_eq_true rfl⟩ (fun r4 u H locs hw Y => ?_)
          have Y : Wo Γ A s H locs [flW Γ 4 shX5 os (adL [oc, s1, s2, s3, s4, s5]) ts, flW Γ 3 shX4 oc ac tc] := Y
          refine lv_if_eq (tgt := 77) hx hb dX5_hasToWait_70 (by decide) (fun hc => ?_) (fun hc => ?_)
          · have hw := hw.1 hc
            refine lv_iconst (v := 0) hx hb dX5_hasToWait_77 rfl ?_
            subst hQ
            exact re_i X Y hr hlk () rfl rfl hw (Nat.le_of_ble_eq_true rfl) (Nat.le_of_ble_eq_true rfl) dX5_hasToWait_78
          · have hw := hw.2 hc
            refine lv_iconst (v := 1) hx hb dX5_hasToWait_73 rfl ?_
            refine lv_goto (tgt := 78) hx hb dX5_hasToWait_74 (by decide) ?_
            subst hQ
            exact re_i X Y hr hlk () rfl rfl hw (Nat.le_of_ble_eq_true rfl) (Nat.le_of_ble_eq_true rfl) dX5_hasToWait_78
  obtain ⟨J5, hwR, hw⟩ := hw
  have hJ5 : ∀ (H : Heap) (locs : List Loc) (ls : Array Slot), J5  → Wo Γ A s H locs [flW Γ 4 shX5 os (adL [oc, s1, s2, s3, s4, s5]) ts, flW Γ 3 shX4 oc ac tc] → lv_has ls 4 [(0, .ref os), (1, .int a1), (2, .int (tc.2.1 5 a1.toNatClampNeg))] → W p l e rmX5_hasToWait s m args below meth c H locs 0 0 Q (F0 m 45 ls []) := by
    intro  H locs ls hw Y hl
    have hw := hwR  hw
    refine lv_iconst (v := 0) hx hb dX5_hasToWait_45 rfl ?_
    exact hJ2 0 H locs ls hw Y (lv_sub hl [0, 1, 2] rfl)
  refine lv_if_eq (tgt := 45) hx hb dX5_hasToWait_15 (by decide) (fun hc => ?_) (fun hc => ?_)
  · have hw := hw.1 hc
    exact hJ5  H locs ls hw Y (lv_sub hl [1, 2, 0] rfl)
  · have hw := hw.2 hc
    refine lv_aload_n hx hb dX5_hasToWait_18 rfl (lv_at hl 1 rfl) ?_
    refine fl_get X Y 0 rfl fcX5 0 rfl (by decide) (X.2.2.2.2.1 _ q351) rfl dX5_hasToWait_19 ?_
    refine lv_iload_n hx hb dX5_hasToWait_22 rfl (lv_at hl 2 rfl) ?_
    refine cv_VI X Y [1] [0] rfl rfl rfl eN_bl (fun U hU hW => ((eN_tr.at X hE Y [1] [0] rfl rfl) U hU hW)) (mtX4_isForwarder (Γ := Γ) (l := l) hw) (lw_V q500 q501 q502 q143 q503) ⟨rfl, hdX4_isForwarder⟩ ⟨Nat.le_of_ble_eq_true rfl, Nat.le_of_ble_eq_true rfl⟩ (ob_cell X Y (b := 1) rfl List.mem_cons_self fcX4) rfl hl.1 rfl (Nat.le_of_ble_eq_true rfl) dX5_hasToWait_23 ⟨Nat.le_of_ble_eq_true rfl, Nat.le_of_ble_eq_true rfl⟩ (fun r6 u H locs hw Y => ?_)
    have Y : Wo Γ A s H locs [flW Γ 3 shX4 oc ac tc, flW Γ 4 shX5 os (adL [oc, s1, s2, s3, s4, s5]) ts] := Y
    refine lv_if_eq (tgt := 45) hx hb dX5_hasToWait_26 (by decide) (fun hc => ?_) (fun hc => ?_)
    · have hw := hw.1 hc
      have Y : Wo Γ A s H locs [flW Γ 4 shX5 os (adL [oc, s1, s2, s3, s4, s5]) ts, flW Γ 3 shX4 oc ac tc] := Y.perm [1, 0] rfl rfl
      exact hJ5  H locs ls hw Y (lv_sub hl [1, 2, 0] rfl)
    · have hw := hw.2 hc
      refine lv_aload_n hx hb dX5_hasToWait_29 rfl (lv_at hl 1 rfl) ?_
      refine lv_iload_n hx hb dX5_hasToWait_30 rfl (lv_at hl 2 rfl) ?_
      refine lv_iconst (v := 0) hx hb dX5_hasToWait_31 rfl ?_
      refine cv_VI X Y [1, 0] [] rfl rfl rfl E0_bl (fun _ _ _ => trivial) (mtX5_message (Γ := Γ) (l := l) hw) (lw_V q590 q591 q592 q144 q593) ⟨rfl, hdX5_message⟩ ⟨Nat.le_of_ble_eq_true rfl, Nat.le_of_ble_eq_true rfl⟩ (ob_cell X Y (b := 1) rfl List.mem_cons_self fcX5) rfl hl.1 rfl (Nat.le_of_ble_eq_true rfl) dX5_hasToWait_32 ⟨Nat.le_of_ble_eq_true rfl, Nat.le_of_ble_eq_true rfl⟩ (fun r7 u H locs hw Y => ?_)
      have Y : Wo Γ A s H locs [flW Γ 4 shX5 os (adL [oc, s1, s2, s3, s4, s5]) ts, flW Γ 3 shX4 oc ac tc] := Y
      refine lv_iconst (v := 4) hx hb dX5_hasToWait_35 rfl ?_
      refine lv_irem hx hb dX5_hasToWait_36 (by decide) ?_
      refine lv_iconst (v := 2) hx hb dX5_hasToWait_37 rfl ?_
      refine lv_icmp_ge (tgt := 45) hx hb dX5_hasToWait_38 (by decide) (fun hc => ?_) (fun hc => ?_)
      · have hw := hw.1 hc
        exact hJ5  H locs ls hw Y (lv_sub hl [1, 2, 0] rfl)
      · have hw := hw.2 hc
        refine lv_iconst (v := 1) hx hb dX5_hasToWait_41 rfl ?_
        refine lv_goto (tgt := 46) hx hb dX5_hasToWait_42 (by decide) ?_
        exact hJ2 1 H locs ls hw Y (lv_sub hl [1, 2, 0] rfl)
def wpX5_isReady (Γ : gT) (K : (Int32) → Prop)  (os : Nat) (oc : Nat) (s1 : Nat) (s2 : Nat) (s3 : Nat) (s4 : Nat) (s5 : Nat) (ts : flT) (ac : Nat → Nat) (tc : flT) (a1 : Int32) : Prop := wpX5_hasMessage (fun r1 => ((r1 = 0 → (K 0)) ∧ (¬ r1 = 0 → (wpX5_hasToWait Γ (fun r2 => ((r2 = 0 → (K 1)) ∧ (¬ r2 = 0 → (K 0))))  os oc s1 s2 s3 s4 s5 ts ac tc a1))))  os oc s1 s2 s3 s4 s5 ts ac tc a1
abbrev rmX5_isReady : Room := { frames := 6, cells := 0, slots := 0, locals := 135 }
theorem hdX5_isReady : yX5_isReady.cls ≠ "java/lang/invoke/MethodHandle" ∧ yX5_isReady.cls ≠ "java/lang/invoke/VarHandle" ∧ (parseMethodDescriptor yX5_isReady.desc).map (fun d => d.parameters.length) = some 1 := by decide +kernel
theorem hpX5_isReady : yX5_isReady.name ≠ "<init>" ∧ (parseMethodDescriptor yX5_isReady.desc).map (fun d => d.parameters.length) = some 1 := by decide +kernel
theorem huX5_isReady : RX5 ≠ "java/lang/invoke/MethodHandle" ∧ RX5 ≠ "java/lang/invoke/VarHandle" ∧ (parseMethodDescriptor yX5_isReady.desc).map (fun d => d.parameters.length) = some 1 := by decide +kernel
set_option maxHeartbeats 4000000 in
theorem mtX5_isReady {Γ : gT} {l : Launch} {os : Nat} {oc : Nat} {s1 : Nat} {s2 : Nat} {s3 : Nat} {s4 : Nat} {s5 : Nat} {ts : flT} {ac : Nat → Nat} {tc : flT} {a1 : Int32} {K : (Int32) → Prop}  (hw : wpX5_isReady Γ K  os oc s1 s2 s3 s4 s5 ts ac tc a1) : cI Γ l yX5_isReady (ws_ yX5_isReady cX5_isReady 2 (some .boolean)) rmX5_isReady (eN Γ) [.ref os, .int a1] [flW Γ 4 shX5 os (adL [oc, s1, s2, s3, s4, s5]) ts, flW Γ 3 shX4 oc ac tc] (fun u : Unit => [flW Γ 4 shX5 os (adL [oc, s1, s2, s3, s4, s5]) ts, flW Γ 3 shX4 oc ac tc]) (fun r u => K r ) := by
  refine cI_of (by decide +kernel) (Nat.le_of_ble_eq_true rfl) ?_
  intro p e s m args below meth c ls A Q hQ X hr hlk hnm hE Y hl
  have hx := X.1
  have hb := X.2.1
  have hl : lv_has ls 2 [(0, .ref os), (1, .int a1)] := hl
  unfold wpX5_isReady at hw
  obtain ⟨H, hH⟩ : ∃ H : Heap, H = s.heap := ⟨_, rfl⟩
  obtain ⟨locs, hlo⟩ : ∃ locs : List Loc, locs = [] := ⟨_, rfl⟩
  rw [← hH, ← hlo] at Y
  rw [← hH, ← hlo]
  refine lv_aload_n hx hb dX5_isReady_0 rfl (lv_at hl 0 rfl) ?_
  refine lv_iload_n hx hb dX5_isReady_1 rfl (lv_at hl 1 rfl) ?_
  refine cv_VI X Y [0, 1] [] rfl rfl rfl E0_bl (fun _ _ _ => trivial) (mtX5_hasMessage (Γ := Γ) (l := l) hw) (lw_V q496 q498 qs0 q144 q499) ⟨rfl, hdX5_hasMessage⟩ ⟨Nat.le_of_ble_eq_true rfl, Nat.le_of_ble_eq_true rfl⟩ (ob_cell X Y (b := 0) rfl List.mem_cons_self fcX5) rfl hl.1 rfl (Nat.le_of_ble_eq_true rfl) dX5_isReady_2 ⟨Nat.le_of_ble_eq_true rfl, Nat.le_of_ble_eq_true rfl⟩ (fun r1 u H locs hw Y => ?_)
  have Y : Wo Γ A s H locs [flW Γ 4 shX5 os (adL [oc, s1, s2, s3, s4, s5]) ts, flW Γ 3 shX4 oc ac tc] := Y
  refine lv_if_eq (tgt := 20) hx hb dX5_isReady_5 (by decide) (fun hc => ?_) (fun hc => ?_)
  · have hw := hw.1 hc
    refine lv_iconst (v := 0) hx hb dX5_isReady_20 rfl ?_
    subst hQ
    exact re_i X Y hr hlk () rfl rfl hw (Nat.le_of_ble_eq_true rfl) (Nat.le_of_ble_eq_true rfl) dX5_isReady_21
  · have hw := hw.2 hc
    refine lv_aload_n hx hb dX5_isReady_8 rfl (lv_at hl 0 rfl) ?_
    refine lv_iload_n hx hb dX5_isReady_9 rfl (lv_at hl 1 rfl) ?_
    refine cv_VI X Y [0, 1] [] rfl rfl rfl eN_bl (fun U hU hW => ((eN_tr.at X hE Y [0, 1] [] rfl rfl) U hU hW)) (mtX5_hasToWait (Γ := Γ) (l := l) hw) (lw_V q1969 q493 q494 q144 q495) ⟨rfl, hdX5_hasToWait⟩ ⟨Nat.le_of_ble_eq_true rfl, Nat.le_of_ble_eq_true rfl⟩ (ob_cell X Y (b := 0) rfl List.mem_cons_self fcX5) rfl hl.1 rfl (Nat.le_of_ble_eq_true rfl) dX5_isReady_10 ⟨Nat.le_of_ble_eq_true rfl, Nat.le_of_ble_eq_true rfl⟩ (fun r2 u H locs hw Y => ?_)
    have Y : Wo Γ A s H locs [flW Γ 4 shX5 os (adL [oc, s1, s2, s3, s4, s5]) ts, flW Γ 3 shX4 oc ac tc] := Y
    refine lv_if_ne (tgt := 20) hx hb dX5_isReady_13 (by decide) (fun hc => ?_) (fun hc => ?_)
    · have hw := hw.2 hc
      refine lv_iconst (v := 0) hx hb dX5_isReady_20 rfl ?_
      subst hQ
      exact re_i X Y hr hlk () rfl rfl hw (Nat.le_of_ble_eq_true rfl) (Nat.le_of_ble_eq_true rfl) dX5_isReady_21
    · have hw := hw.1 hc
      refine lv_iconst (v := 1) hx hb dX5_isReady_16 rfl ?_
      refine lv_goto (tgt := 21) hx hb dX5_isReady_17 (by decide) ?_
      subst hQ
      exact re_i X Y hr hlk () rfl rfl hw (Nat.le_of_ble_eq_true rfl) (Nat.le_of_ble_eq_true rfl) dX5_isReady_21
def wpX5_readyCount (Γ : gT) (K : (Int32) → Prop)  (os : Nat) (oc : Nat) (s1 : Nat) (s2 : Nat) (s3 : Nat) (s4 : Nat) (s5 : Nat) (ts : flT) (ac : Nat → Nat) (tc : flT) : Prop := ∃ I1 : Nat → (Int32) → (Int32) → Prop, (∃ n, I1 n 0 0) ∧ ∀ (n2 : Nat) (x3 : Int32) (x4 : Int32), I1 n2 x3 x4 → (((tc.1 0) ≤ x4 → (K x3)) ∧ (¬ (tc.1 0) ≤ x4 → (wpX5_isReady Γ (fun r5 => (∃ J6 : (Int32) → Prop, (∀ (x7 : Int32), J6 x7 → (∃ n8, n8 < n2 ∧ I1 n8 (x3 + x7) (x4 + 1))) ∧ ((r5 = 0 → (J6 0)) ∧ (¬ r5 = 0 → (J6 1)))))  os oc s1 s2 s3 s4 s5 ts ac tc x4)))
abbrev rmX5_readyCount : Room := { frames := 7, cells := 0, slots := 0, locals := 156 }
theorem hdX5_readyCount : yX5_readyCount.cls ≠ "java/lang/invoke/MethodHandle" ∧ yX5_readyCount.cls ≠ "java/lang/invoke/VarHandle" ∧ (parseMethodDescriptor yX5_readyCount.desc).map (fun d => d.parameters.length) = some 0 := by decide +kernel
theorem hpX5_readyCount : yX5_readyCount.name ≠ "<init>" ∧ (parseMethodDescriptor yX5_readyCount.desc).map (fun d => d.parameters.length) = some 0 := by decide +kernel
theorem huX5_readyCount : RX5 ≠ "java/lang/invoke/MethodHandle" ∧ RX5 ≠ "java/lang/invoke/VarHandle" ∧ (parseMethodDescriptor yX5_readyCount.desc).map (fun d => d.parameters.length) = some 0 := by decide +kernel
set_option maxHeartbeats 4000000 in
theorem mtX5_readyCount {Γ : gT} {l : Launch} {os : Nat} {oc : Nat} {s1 : Nat} {s2 : Nat} {s3 : Nat} {s4 : Nat} {s5 : Nat} {ts : flT} {ac : Nat → Nat} {tc : flT} {K : (Int32) → Prop}  (hw : wpX5_readyCount Γ K  os oc s1 s2 s3 s4 s5 ts ac tc) : cI Γ l yX5_readyCount (ws_ yX5_readyCount cX5_readyCount 3 (some .int)) rmX5_readyCount (eN Γ) [.ref os] [flW Γ 4 shX5 os (adL [oc, s1, s2, s3, s4, s5]) ts, flW Γ 3 shX4 oc ac tc] (fun u : Unit => [flW Γ 4 shX5 os (adL [oc, s1, s2, s3, s4, s5]) ts, flW Γ 3 shX4 oc ac tc]) (fun r u => K r ) := by
  refine cI_of (by decide +kernel) (Nat.le_of_ble_eq_true rfl) ?_
  intro p e s m args below meth c ls A Q hQ X hr hlk hnm hE Y hl
  have hx := X.1
  have hb := X.2.1
  have hl : lv_has ls 3 [(0, .ref os)] := hl
  unfold wpX5_readyCount at hw
  obtain ⟨H, hH⟩ : ∃ H : Heap, H = s.heap := ⟨_, rfl⟩
  obtain ⟨locs, hlo⟩ : ∃ locs : List Loc, locs = [] := ⟨_, rfl⟩
  rw [← hH, ← hlo] at Y
  rw [← hH, ← hlo]
  refine lv_iconst (v := 0) hx hb dX5_readyCount_0 rfl ?_
  refine lv_istore_n (lv' := [(1, .int 0), (0, .ref os)]) hx hb dX5_readyCount_1 rfl hl (by decide) rfl (fun ls hl => ?_)
  refine lv_iconst (v := 0) hx hb dX5_readyCount_2 rfl ?_
  refine lv_istore_n (lv' := [(2, .int 0), (1, .int 0), (0, .ref os)]) hx hb dX5_readyCount_3 rfl hl (by decide) rfl (fun ls hl => ?_)
  obtain ⟨I1, hw0, hwI⟩ := hw
  have hI1 : ∀ (n2 : Nat) (x3 : Int32) (x4 : Int32) (H : Heap) (locs : List Loc) (ls : Array Slot), I1 n2 x3 x4 → Wo Γ A s H locs [flW Γ 4 shX5 os (adL [oc, s1, s2, s3, s4, s5]) ts, flW Γ 3 shX4 oc ac tc] → lv_has ls 3 [(0, .ref os), (1, .int x3), (2, .int x4)] → W p l e rmX5_readyCount s m args below meth c H locs 0 0 Q (F0 m 4 ls []) := by
    intro n2
    induction n2 using Nat.strongRecOn with
    | ind n2 ihn2 =>
      intro x3 x4 H locs ls hw Y hl
      have hw := hwI n2 x3 x4 hw
      refine lv_iload_n hx hb dX5_readyCount_4 rfl (lv_at hl 2 rfl) ?_
      refine lv_aload_n hx hb dX5_readyCount_5 rfl (lv_at hl 0 rfl) ?_
      refine fl_get X Y 0 rfl fcX5 0 rfl (by decide) (X.2.2.2.2.1 _ q351) rfl dX5_readyCount_6 ?_
      refine fl_getN X Y 1 rfl fcX4 0 rfl (by decide) q305 rfl dX5_readyCount_9 ?_
      refine lv_icmp_ge (tgt := 37) hx hb dX5_readyCount_12 (by decide) (fun hc => ?_) (fun hc => ?_)
      · have hw := hw.1 hc
        refine lv_iload_n hx hb dX5_readyCount_37 rfl (lv_at hl 1 rfl) ?_
        subst hQ
        exact re_i X Y hr hlk () rfl rfl hw (Nat.le_of_ble_eq_true rfl) (Nat.le_of_ble_eq_true rfl) dX5_readyCount_38
      · have hw := hw.2 hc
        refine lv_iload_n hx hb dX5_readyCount_15 rfl (lv_at hl 1 rfl) ?_
        refine lv_aload_n hx hb dX5_readyCount_16 rfl (lv_at hl 0 rfl) ?_
        refine lv_iload_n hx hb dX5_readyCount_17 rfl (lv_at hl 2 rfl) ?_
        refine cv_VI X Y [0, 1] [] rfl rfl rfl eN_bl (fun U hU hW => ((eN_tr.at X hE Y [0, 1] [] rfl rfl) U hU hW)) (mtX5_isReady (Γ := Γ) (l := l) hw) (lw_V q1965 q1966 q1967 q144 q1968) ⟨rfl, hdX5_isReady⟩ ⟨Nat.le_of_ble_eq_true rfl, Nat.le_of_ble_eq_true rfl⟩ (ob_cell X Y (b := 0) rfl List.mem_cons_self fcX5) rfl hl.1 rfl (Nat.le_of_ble_eq_true rfl) dX5_readyCount_18 ⟨Nat.le_of_ble_eq_true rfl, Nat.le_of_ble_eq_true rfl⟩ (fun r5 u H locs hw Y => ?_)
        have Y : Wo Γ A s H locs [flW Γ 4 shX5 os (adL [oc, s1, s2, s3, s4, s5]) ts, flW Γ 3 shX4 oc ac tc] := Y
        obtain ⟨J6, hwR, hw⟩ := hw
        have hJ6 : ∀ (x7 : Int32) (H : Heap) (locs : List Loc) (ls : Array Slot), J6 x7 → Wo Γ A s H locs [flW Γ 4 shX5 os (adL [oc, s1, s2, s3, s4, s5]) ts, flW Γ 3 shX4 oc ac tc] → lv_has ls 3 [(0, .ref os), (2, .int x4)] → W p l e rmX5_readyCount s m args below meth c H locs 0 0 Q (F0 m 29 ls [.int x7, .int x3]) := by
          intro x7 H locs ls hw Y hl
          have hw := hwR x7 hw
          refine lv_iadd hx hb dX5_readyCount_29 ?_
          refine lv_istore_n (lv' := [(1, .int (x3 + x7)), (0, .ref os), (2, .int x4)]) hx hb dX5_readyCount_30 rfl hl (by decide) rfl (fun ls hl => ?_)
          refine lv_iinc (v := x4 + 1) (lv' := [(2, .int (x4 + 1)), (1, .int (x3 + x7)), (0, .ref os)]) hx hb dX5_readyCount_31 hl (k := 2) rfl rfl (by decide) rfl (fun ls hl => ?_)
          refine lv_goto (tgt := 4) hx hb dX5_readyCount_34 (by decide) ?_
          obtain ⟨n8, hlt, hw⟩ := hw
          exact ihn2 n8 hlt (x3 + x7) (x4 + 1) H locs ls hw Y (lv_sub hl [2, 1, 0] rfl)
        refine lv_if_eq (tgt := 28) hx hb dX5_readyCount_21 (by decide) (fun hc => ?_) (fun hc => ?_)
        · have hw := hw.1 hc
          refine lv_iconst (v := 0) hx hb dX5_readyCount_28 rfl ?_
          exact hJ6 0 H locs ls hw Y (lv_sub hl [0, 2] rfl)
        · have hw := hw.2 hc
          refine lv_iconst (v := 1) hx hb dX5_readyCount_24 rfl ?_
          refine lv_goto (tgt := 29) hx hb dX5_readyCount_25 (by decide) ?_
          exact hJ6 1 H locs ls hw Y (lv_sub hl [0, 2] rfl)
  obtain ⟨n0, hw0⟩ := hw0
  exact hI1 n0 0 0 H locs ls hw0 Y (lv_sub hl [2, 1, 0] rfl)
def wpX5_ready (Γ : gT) (K : (Int32) → Prop)  (os : Nat) (oc : Nat) (s1 : Nat) (s2 : Nat) (s3 : Nat) (s4 : Nat) (s5 : Nat) (ts : flT) (ac : Nat → Nat) (tc : flT) (a1 : Int32) : Prop := ∃ I1 : Nat → (Int32) → (Int32) → Prop, (∃ n, I1 n 0 a1) ∧ ∀ (n2 : Nat) (x3 : Int32) (x4 : Int32), I1 n2 x3 x4 → (wpX5_isReady Γ (fun r5 => (∃ J6 : Prop, (J6 → (wpX5_isReady Γ (fun r7 => (∃ J8 : (Int32) → Prop, (∀ (x9 : Int32), J8 x9 → (∃ n10, n10 < n2 ∧ I1 n10 (x3 + 1) (x4 - x9))) ∧ ((r7 = 0 → (J8 0)) ∧ (¬ r7 = 0 → (J8 1)))))  os oc s1 s2 s3 s4 s5 ts ac tc x3)) ∧ ((r5 = 0 → (J6)) ∧ (¬ r5 = 0 → ((x4 ≤ 0 → (K x3)) ∧ (¬ x4 ≤ 0 → (J6)))))))  os oc s1 s2 s3 s4 s5 ts ac tc x3)
abbrev rmX5_ready : Room := { frames := 7, cells := 0, slots := 0, locals := 156 }
theorem hdX5_ready : yX5_ready.cls ≠ "java/lang/invoke/MethodHandle" ∧ yX5_ready.cls ≠ "java/lang/invoke/VarHandle" ∧ (parseMethodDescriptor yX5_ready.desc).map (fun d => d.parameters.length) = some 1 := by decide +kernel
theorem hpX5_ready : yX5_ready.name ≠ "<init>" ∧ (parseMethodDescriptor yX5_ready.desc).map (fun d => d.parameters.length) = some 1 := by decide +kernel
theorem huX5_ready : RX5 ≠ "java/lang/invoke/MethodHandle" ∧ RX5 ≠ "java/lang/invoke/VarHandle" ∧ (parseMethodDescriptor yX5_ready.desc).map (fun d => d.parameters.length) = some 1 := by decide +kernel
set_option maxHeartbeats 4000000 in
theorem mtX5_ready {Γ : gT} {l : Launch} {os : Nat} {oc : Nat} {s1 : Nat} {s2 : Nat} {s3 : Nat} {s4 : Nat} {s5 : Nat} {ts : flT} {ac : Nat → Nat} {tc : flT} {a1 : Int32} {K : (Int32) → Prop}  (hw : wpX5_ready Γ K  os oc s1 s2 s3 s4 s5 ts ac tc a1) : cI Γ l yX5_ready (ws_ yX5_ready cX5_ready 4 (some .int)) rmX5_ready (eN Γ) [.ref os, .int a1] [flW Γ 4 shX5 os (adL [oc, s1, s2, s3, s4, s5]) ts, flW Γ 3 shX4 oc ac tc] (fun u : Unit => [flW Γ 4 shX5 os (adL [oc, s1, s2, s3, s4, s5]) ts, flW Γ 3 shX4 oc ac tc]) (fun r u => K r ) := by
  refine cI_of (by decide +kernel) (Nat.le_of_ble_eq_true rfl) ?_
  intro p e s m args below meth c ls A Q hQ X hr hlk hnm hE Y hl
  have hx := X.1
  have hb := X.2.1
  have hl : lv_has ls 4 [(0, .ref os), (1, .int a1)] := hl
  unfold wpX5_ready at hw
  obtain ⟨H, hH⟩ : ∃ H : Heap, H = s.heap := ⟨_, rfl⟩
  obtain ⟨locs, hlo⟩ : ∃ locs : List Loc, locs = [] := ⟨_, rfl⟩
  rw [← hH, ← hlo] at Y
  rw [← hH, ← hlo]
  refine lv_iconst (v := 0) hx hb dX5_ready_0 rfl ?_
  refine lv_istore_n (lv' := [(2, .int 0), (0, .ref os), (1, .int a1)]) hx hb dX5_ready_1 rfl hl (by decide) rfl (fun ls hl => ?_)
  refine lv_iload_n hx hb dX5_ready_2 rfl (lv_at hl 2 rfl) ?_
  refine lv_istore_n (lv' := [(3, .int a1), (2, .int 0), (0, .ref os), (1, .int a1)]) hx hb dX5_ready_3 rfl hl (by decide) rfl (fun ls hl => ?_)
  obtain ⟨I1, hw0, hwI⟩ := hw
  have hI1 : ∀ (n2 : Nat) (x3 : Int32) (x4 : Int32) (H : Heap) (locs : List Loc) (ls : Array Slot), I1 n2 x3 x4 → Wo Γ A s H locs [flW Γ 4 shX5 os (adL [oc, s1, s2, s3, s4, s5]) ts, flW Γ 3 shX4 oc ac tc] → lv_has ls 4 [(0, .ref os), (2, .int x3), (3, .int x4)] → W p l e rmX5_ready s m args below meth c H locs 0 0 Q (F0 m 4 ls []) := by
    intro n2
    induction n2 using Nat.strongRecOn with
    | ind n2 ihn2 =>
      intro x3 x4 H locs ls hw Y hl
      have hw := hwI n2 x3 x4 hw
      refine lv_aload_n hx hb dX5_ready_4 rfl (lv_at hl 0 rfl) ?_
      refine lv_iload_n hx hb dX5_ready_5 rfl (lv_at hl 1 rfl) ?_
      refine cv_VI X Y [0, 1] [] rfl rfl rfl eN_bl (fun U hU hW => ((eN_tr.at X hE Y [0, 1] [] rfl rfl) U hU hW)) (mtX5_isReady (Γ := Γ) (l := l) hw) (lw_V q1965 q1966 q1967 q144 q1968) ⟨rfl, hdX5_isReady⟩ ⟨Nat.le_of_ble_eq_true rfl, Nat.le_of_ble_eq_true rfl⟩ (ob_cell X Y (b := 0) rfl List.mem_cons_self fcX5) rfl hl.1 rfl (Nat.le_of_ble_eq_true rfl) dX5_ready_6 ⟨Nat.le_of_ble_eq_true rfl, Nat.le_of_ble_eq_true rfl⟩ (fun r5 u H locs hw Y => ?_)
      have Y : Wo Γ A s H locs [flW Γ 4 shX5 os (adL [oc, s1, s2, s3, s4, s5]) ts, flW Γ 3 shX4 oc ac tc] := Y
      obtain ⟨J6, hwR, hw⟩ := hw
      have hJ6 : ∀ (H : Heap) (locs : List Loc) (ls : Array Slot), J6  → Wo Γ A s H locs [flW Γ 4 shX5 os (adL [oc, s1, s2, s3, s4, s5]) ts, flW Γ 3 shX4 oc ac tc] → lv_has ls 4 [(0, .ref os), (2, .int x3), (3, .int x4)] → W p l e rmX5_ready s m args below meth c H locs 0 0 Q (F0 m 16 ls []) := by
        intro  H locs ls hw Y hl
        have hw := hwR  hw
        refine lv_iload_n hx hb dX5_ready_16 rfl (lv_at hl 2 rfl) ?_
        refine lv_aload_n hx hb dX5_ready_17 rfl (lv_at hl 0 rfl) ?_
        refine lv_iload_n hx hb dX5_ready_18 rfl (lv_at hl 1 rfl) ?_
        refine cv_VI X Y [0, 1] [] rfl rfl rfl eN_bl (fun U hU hW => ((eN_tr.at X hE Y [0, 1] [] rfl rfl) U hU hW)) (mtX5_isReady (Γ := Γ) (l := l) hw) (lw_V q1965 q1966 q1967 q144 q1968) ⟨rfl, hdX5_isReady⟩ ⟨Nat.le_of_ble_eq_true rfl, Nat.le_of_ble_eq_true rfl⟩ (ob_cell X Y (b := 0) rfl List.mem_cons_self fcX5) rfl hl.1 rfl (Nat.le_of_ble_eq_true rfl) dX5_ready_19 ⟨Nat.le_of_ble_eq_true rfl, Nat.le_of_ble_eq_true rfl⟩ (fun r7 u H locs hw Y => ?_)
        have Y : Wo Γ A s H locs [flW Γ 4 shX5 os (adL [oc, s1, s2, s3, s4, s5]) ts, flW Γ 3 shX4 oc ac tc] := Y
        obtain ⟨J8, hwR, hw⟩ := hw
        have hJ8 : ∀ (x9 : Int32) (H : Heap) (locs : List Loc) (ls : Array Slot), J8 x9 → Wo Γ A s H locs [flW Γ 4 shX5 os (adL [oc, s1, s2, s3, s4, s5]) ts, flW Γ 3 shX4 oc ac tc] → lv_has ls 4 [(0, .ref os), (2, .int x3)] → W p l e rmX5_ready s m args below meth c H locs 0 0 Q (F0 m 30 ls [.int x9, .int x4]) := by
          intro x9 H locs ls hw Y hl
          have hw := hwR x9 hw
          refine lv_isub hx hb dX5_ready_30 ?_
          refine lv_istore_n (lv' := [(3, .int (x4 - x9)), (0, .ref os), (2, .int x3)]) hx hb dX5_ready_31 rfl hl (by decide) rfl (fun ls hl => ?_)
          refine lv_iinc (v := x3 + 1) (lv' := [(2, .int (x3 + 1)), (3, .int (x4 - x9)), (0, .ref os)]) hx hb dX5_ready_32 hl (k := 2) rfl rfl (by decide) rfl (fun ls hl => ?_)
          refine lv_goto (tgt := 4) hx hb dX5_ready_35 (by decide) ?_
          obtain ⟨n10, hlt, hw⟩ := hw
          exact ihn2 n10 hlt (x3 + 1) (x4 - x9) H locs ls hw Y (lv_sub hl [2, 0, 1] rfl)
        refine lv_if_eq (tgt := 29) hx hb dX5_ready_22 (by decide) (fun hc => ?_) (fun hc => ?_)
        · have hw := hw.1 hc
          refine lv_iconst (v := 0) hx hb dX5_ready_29 rfl ?_
          exact hJ8 0 H locs ls hw Y (lv_sub hl [0, 1] rfl)
        · have hw := hw.2 hc
          refine lv_iconst (v := 1) hx hb dX5_ready_25 rfl ?_
          refine lv_goto (tgt := 30) hx hb dX5_ready_26 (by decide) ?_
          exact hJ8 1 H locs ls hw Y (lv_sub hl [0, 1] rfl)
      refine lv_if_eq (tgt := 16) hx hb dX5_ready_9 (by decide) (fun hc => ?_) (fun hc => ?_)
      · have hw := hw.1 hc
        exact hJ6  H locs ls hw Y (lv_sub hl [0, 1, 2] rfl)
      · have hw := hw.2 hc
        refine lv_iload_n hx hb dX5_ready_12 rfl (lv_at hl 2 rfl) ?_
        refine lv_if_le (tgt := 38) hx hb dX5_ready_13 (by decide) (fun hc => ?_) (fun hc => ?_)
        · have hw := hw.1 hc
          refine lv_iload_n hx hb dX5_ready_38 rfl (lv_at hl 1 rfl) ?_
          subst hQ
          exact re_i X Y hr hlk () rfl rfl hw (Nat.le_of_ble_eq_true rfl) (Nat.le_of_ble_eq_true rfl) dX5_ready_39
        · have hw := hw.2 hc
          exact hJ6  H locs ls hw Y (lv_sub hl [0, 1, 2] rfl)
  obtain ⟨n0, hw0⟩ := hw0
  exact hI1 n0 0 a1 H locs ls hw0 Y (lv_sub hl [2, 1, 0] rfl)
def wpX5_stopOne (K : (flT) → Prop)  (os : Nat) (oc : Nat) (s1 : Nat) (s2 : Nat) (s3 : Nat) (s4 : Nat) (s5 : Nat) (ts : flT) (ac : Nat → Nat) (tc : flT) (a1 : Int32) : Prop := vp_in a1 8 ∧ (vp_in a1 8 ∧ (∀ t1 : flT, t1 = (upd (ts.1, va_up ts.2.1 3 (upd (ts.2.1 3) a1.toNatClampNeg (vp_nar .boolean 1)), ts.2.2).1 7 (((ts.1, va_up ts.2.1 3 (upd (ts.2.1 3) a1.toNatClampNeg (vp_nar .boolean 1)), ts.2.2).1 7) + ((ts.1, va_up ts.2.1 3 (upd (ts.2.1 3) a1.toNatClampNeg (vp_nar .boolean 1)), ts.2.2).2.1 4 a1.toNatClampNeg)), (ts.1, va_up ts.2.1 3 (upd (ts.2.1 3) a1.toNatClampNeg (vp_nar .boolean 1)), ts.2.2).2) → (∃ I2 : Nat → (Int32) → (flT) → Prop, (∃ n, I2 n 0 t1) ∧ ∀ (n3 : Nat) (x4 : Int32) (t5 : flT), I2 n3 x4 t5 → (vp_in a1 8 ∧ (((t5.2.1 4 a1.toNatClampNeg) ≤ x4 → (vp_in a1 8 ∧ (K (t5.1, va_up t5.2.1 4 (upd (t5.2.1 4) a1.toNatClampNeg 0), t5.2.2)))) ∧ (¬ (t5.2.1 4 a1.toNatClampNeg) ≤ x4 → (vp_in (((6 : Int32) * a1) + x4) 48 ∧ (∃ n6, n6 < n3 ∧ I2 n6 (x4 + 1) (t5.1, va_up t5.2.1 5 (upd (t5.2.1 5) (((6 : Int32) * a1) + x4).toNatClampNeg 0), t5.2.2)))))))))
abbrev rmX5_stopOne : Room := { frames := 0, cells := 0, slots := 0, locals := 0 }
theorem hdX5_stopOne : yX5_stopOne.cls ≠ "java/lang/invoke/MethodHandle" ∧ yX5_stopOne.cls ≠ "java/lang/invoke/VarHandle" ∧ (parseMethodDescriptor yX5_stopOne.desc).map (fun d => d.parameters.length) = some 1 := by decide +kernel
theorem hpX5_stopOne : yX5_stopOne.name ≠ "<init>" ∧ (parseMethodDescriptor yX5_stopOne.desc).map (fun d => d.parameters.length) = some 1 := by decide +kernel
theorem huX5_stopOne : RX5 ≠ "java/lang/invoke/MethodHandle" ∧ RX5 ≠ "java/lang/invoke/VarHandle" ∧ (parseMethodDescriptor yX5_stopOne.desc).map (fun d => d.parameters.length) = some 1 := by decide +kernel
set_option maxHeartbeats 4000000 in
theorem mtX5_stopOne {Γ : gT} {l : Launch} {os : Nat} {oc : Nat} {s1 : Nat} {s2 : Nat} {s3 : Nat} {s4 : Nat} {s5 : Nat} {ts : flT} {ac : Nat → Nat} {tc : flT} {a1 : Int32} {K : (flT) → Prop}  (hw : wpX5_stopOne K  os oc s1 s2 s3 s4 s5 ts ac tc a1) : cV Γ l yX5_stopOne (ws_ yX5_stopOne cX5_stopOne 3 none) rmX5_stopOne E0 [.ref os, .int a1] [flW Γ 4 shX5 os (adL [oc, s1, s2, s3, s4, s5]) ts, flW Γ 3 shX4 oc ac tc] (fun u : (flT) => [flW Γ 4 shX5 os (adL [oc, s1, s2, s3, s4, s5]) u, flW Γ 3 shX4 oc ac tc]) (fun u => K u) := by
  refine cV_of (by decide +kernel) (Nat.le_of_ble_eq_true rfl) ?_
  intro p e s m args below meth c ls A Q hQ X hr hlk hnm hE Y hl
  have hx := X.1
  have hb := X.2.1
  have hl : lv_has ls 3 [(0, .ref os), (1, .int a1)] := hl
  unfold wpX5_stopOne at hw
  obtain ⟨H, hH⟩ : ∃ H : Heap, H = s.heap := ⟨_, rfl⟩
  obtain ⟨locs, hlo⟩ : ∃ locs : List Loc, locs = [] := ⟨_, rfl⟩
  rw [← hH, ← hlo] at Y
  rw [← hH, ← hlo]
  refine lv_aload_n hx hb dX5_stopOne_0 rfl (lv_at hl 0 rfl) ?_
  refine fl_get X Y 0 rfl fcX5 3 rfl (by decide) (X.2.2.2.2.1 _ q358) rfl dX5_stopOne_1 ?_
  refine lv_iload_n hx hb dX5_stopOne_4 rfl (lv_at hl 1 rfl) ?_
  refine lv_iconst (v := 1) hx hb dX5_stopOne_5 rfl ?_
  refine fl_ast2 X Y 0 rfl 3 rfl hw.1 dX5_stopOne_6 (fun H locs Y => ?_)
  have hw := hw.2
  have Y : Wo Γ A s H locs [flW Γ 4 shX5 os (adL [oc, s1, s2, s3, s4, s5]) (ts.1, va_up ts.2.1 3 (upd (ts.2.1 3) a1.toNatClampNeg (vp_nar .boolean 1)), ts.2.2), flW Γ 3 shX4 oc ac tc] := Y
  refine lv_aload_n hx hb dX5_stopOne_7 rfl (lv_at hl 0 rfl) ?_
  refine lv_dup hx hb dX5_stopOne_8 rfl ?_
  refine fl_get X Y 0 rfl fcX5 7 rfl (by decide) (X.2.2.2.2.1 _ q368) rfl dX5_stopOne_9 ?_
  refine lv_aload_n hx hb dX5_stopOne_12 rfl (lv_at hl 0 rfl) ?_
  refine fl_get X Y 0 rfl fcX5 4 rfl (by decide) (X.2.2.2.2.1 _ q361) rfl dX5_stopOne_13 ?_
  refine lv_iload_n hx hb dX5_stopOne_16 rfl (lv_at hl 1 rfl) ?_
  refine fl_ald0 X Y 0 rfl 4 rfl hw.1 dX5_stopOne_17 ?_
  have hw := hw.2
  refine lv_iadd hx hb dX5_stopOne_18 ?_
  refine fl_put X Y 0 rfl fcX5 7 rfl (by decide) (X.2.2.2.2.1 _ q368) rfl rfl rfl dX5_stopOne_19 (fun H locs Y => ?_)
  obtain ⟨t1, ht1⟩ : ∃ z : flT, z = (upd (ts.1, va_up ts.2.1 3 (upd (ts.2.1 3) a1.toNatClampNeg (vp_nar .boolean 1)), ts.2.2).1 7 (((ts.1, va_up ts.2.1 3 (upd (ts.2.1 3) a1.toNatClampNeg (vp_nar .boolean 1)), ts.2.2).1 7) + ((ts.1, va_up ts.2.1 3 (upd (ts.2.1 3) a1.toNatClampNeg (vp_nar .boolean 1)), ts.2.2).2.1 4 a1.toNatClampNeg)), (ts.1, va_up ts.2.1 3 (upd (ts.2.1 3) a1.toNatClampNeg (vp_nar .boolean 1)), ts.2.2).2) := ⟨_, rfl⟩
  have Y : Wo Γ A s H locs [flW Γ 4 shX5 os (adL [oc, s1, s2, s3, s4, s5]) t1, flW Γ 3 shX4 oc ac tc] := by rw [ht1]; exact Y
  have hw := hw t1 ht1
  refine lv_iconst (v := 0) hx hb dX5_stopOne_22 rfl ?_
  refine lv_istore_n (lv' := [(2, .int 0), (0, .ref os), (1, .int a1)]) hx hb dX5_stopOne_23 rfl hl (by decide) rfl (fun ls hl => ?_)
  obtain ⟨I2, hw0, hwI⟩ := hw
  have hI2 : ∀ (n3 : Nat) (x4 : Int32) (t5 : flT) (H : Heap) (locs : List Loc) (ls : Array Slot), I2 n3 x4 t5 → Wo Γ A s H locs [flW Γ 4 shX5 os (adL [oc, s1, s2, s3, s4, s5]) t5, flW Γ 3 shX4 oc ac tc] → lv_has ls 3 [(0, .ref os), (1, .int a1), (2, .int x4)] → W p l e rmX5_stopOne s m args below meth c H locs 0 0 Q (F0 m 24 ls []) := by
    intro n3
    induction n3 using Nat.strongRecOn with
    | ind n3 ihn3 =>
      intro x4 t5 H locs ls hw Y hl
      have hw := hwI n3 x4 t5 hw
      refine lv_iload_n hx hb dX5_stopOne_24 rfl (lv_at hl 2 rfl) ?_
      refine lv_aload_n hx hb dX5_stopOne_25 rfl (lv_at hl 0 rfl) ?_
      refine fl_get X Y 0 rfl fcX5 4 rfl (by decide) (X.2.2.2.2.1 _ q361) rfl dX5_stopOne_26 ?_
      refine lv_iload_n hx hb dX5_stopOne_29 rfl (lv_at hl 1 rfl) ?_
      refine fl_ald0 X Y 0 rfl 4 rfl hw.1 dX5_stopOne_30 ?_
      have hw := hw.2
      refine lv_icmp_ge (tgt := 52) hx hb dX5_stopOne_31 (by decide) (fun hc => ?_) (fun hc => ?_)
      · have hw := hw.1 hc
        refine lv_aload_n hx hb dX5_stopOne_52 rfl (lv_at hl 0 rfl) ?_
        refine fl_get X Y 0 rfl fcX5 4 rfl (by decide) (X.2.2.2.2.1 _ q361) rfl dX5_stopOne_53 ?_
        refine lv_iload_n hx hb dX5_stopOne_56 rfl (lv_at hl 1 rfl) ?_
        refine lv_iconst (v := 0) hx hb dX5_stopOne_57 rfl ?_
        refine fl_ast0 X Y 0 rfl 4 rfl hw.1 dX5_stopOne_58 (fun H locs Y => ?_)
        have hw := hw.2
        have Y : Wo Γ A s H locs [flW Γ 4 shX5 os (adL [oc, s1, s2, s3, s4, s5]) (t5.1, va_up t5.2.1 4 (upd (t5.2.1 4) a1.toNatClampNeg 0), t5.2.2), flW Γ 3 shX4 oc ac tc] := Y
        subst hQ
        exact re_v X Y hr hlk (t5.1, va_up t5.2.1 4 (upd (t5.2.1 4) a1.toNatClampNeg 0), t5.2.2) rfl hw (Nat.le_of_ble_eq_true rfl) (Nat.le_of_ble_eq_true rfl) dX5_stopOne_59
      · have hw := hw.2 hc
        refine lv_aload_n hx hb dX5_stopOne_34 rfl (lv_at hl 0 rfl) ?_
        refine fl_get X Y 0 rfl fcX5 5 rfl (by decide) (X.2.2.2.2.1 _ q364) rfl dX5_stopOne_35 ?_
        refine lv_bipush (v := 6) hx hb dX5_stopOne_38 rfl ?_
        refine lv_iload_n hx hb dX5_stopOne_40 rfl (lv_at hl 1 rfl) ?_
        refine lv_imul hx hb dX5_stopOne_41 ?_
        refine lv_iload_n hx hb dX5_stopOne_42 rfl (lv_at hl 2 rfl) ?_
        refine lv_iadd hx hb dX5_stopOne_43 ?_
        refine lv_iconst (v := 0) hx hb dX5_stopOne_44 rfl ?_
        refine fl_ast0 X Y 0 rfl 5 rfl hw.1 dX5_stopOne_45 (fun H locs Y => ?_)
        have hw := hw.2
        have Y : Wo Γ A s H locs [flW Γ 4 shX5 os (adL [oc, s1, s2, s3, s4, s5]) (t5.1, va_up t5.2.1 5 (upd (t5.2.1 5) (((6 : Int32) * a1) + x4).toNatClampNeg 0), t5.2.2), flW Γ 3 shX4 oc ac tc] := Y
        refine lv_iinc (v := x4 + 1) (lv' := [(2, .int (x4 + 1)), (0, .ref os), (1, .int a1)]) hx hb dX5_stopOne_46 hl (k := 2) rfl rfl (by decide) rfl (fun ls hl => ?_)
        refine lv_goto (tgt := 24) hx hb dX5_stopOne_49 (by decide) ?_
        obtain ⟨n6, hlt, hw⟩ := hw
        exact ihn3 n6 hlt (x4 + 1) (t5.1, va_up t5.2.1 5 (upd (t5.2.1 5) (((6 : Int32) * a1) + x4).toNatClampNeg 0), t5.2.2) H locs ls hw Y (lv_sub hl [1, 2, 0] rfl)
  obtain ⟨n0, hw0⟩ := hw0
  exact hI2 n0 0 t1 H locs ls hw0 Y (lv_sub hl [1, 2, 0] rfl)
def wpX5_stop (K : (Int32) → (flT) → Prop)  (os : Nat) (oc : Nat) (s1 : Nat) (s2 : Nat) (s3 : Nat) (s4 : Nat) (s5 : Nat) (ts : flT) (ac : Nat → Nat) (tc : flT) (a1 : Int32) : Prop := ∃ I1 : Nat → (Int32) → (flT) → Prop, (∃ n, I1 n a1 ts) ∧ ∀ (n2 : Nat) (x3 : Int32) (t4 : flT), I1 n2 x3 t4 → (((tc.1 0) ≤ x3 → (K ((t4.1 7) - (ts.1 7)) t4)) ∧ (¬ (tc.1 0) ≤ x3 → (∃ J5 : (Int32) → Prop, (∀ (x6 : Int32), J5 x6 → (∃ J7 : (flT) → Prop, (∀ (t8 : flT), J7 t8 → (∃ n9, n9 < n2 ∧ I1 n9 (x3 + 1) t8)) ∧ ((x6 = 0 → (J7 t4)) ∧ (¬ x6 = 0 → (vp_in x3 8 ∧ (((t4.2.1 3 x3.toNatClampNeg) = 0 → (wpX5_stopOne (fun t10 => (J7 t10))  os oc s1 s2 s3 s4 s5 t4 ac tc x3)) ∧ (¬ (t4.2.1 3 x3.toNatClampNeg) = 0 → (J7 t4)))))))) ∧ (∃ J11 : Prop, (J11 → (J5 1)) ∧ ((x3 = a1 → (J11)) ∧ (¬ x3 = a1 → (wpX4_isBelow (fun r12 => ((r12 = 0 → (J5 0)) ∧ (¬ r12 = 0 → (J11))))  oc ac tc x3 a1)))))))
abbrev rmX5_stop : Room := { frames := 1, cells := 0, slots := 0, locals := 23 }
theorem hdX5_stop : yX5_stop.cls ≠ "java/lang/invoke/MethodHandle" ∧ yX5_stop.cls ≠ "java/lang/invoke/VarHandle" ∧ (parseMethodDescriptor yX5_stop.desc).map (fun d => d.parameters.length) = some 1 := by decide +kernel
theorem hpX5_stop : yX5_stop.name ≠ "<init>" ∧ (parseMethodDescriptor yX5_stop.desc).map (fun d => d.parameters.length) = some 1 := by decide +kernel
theorem huX5_stop : RX5 ≠ "java/lang/invoke/MethodHandle" ∧ RX5 ≠ "java/lang/invoke/VarHandle" ∧ (parseMethodDescriptor yX5_stop.desc).map (fun d => d.parameters.length) = some 1 := by decide +kernel
set_option maxHeartbeats 4000000 in
theorem mtX5_stop {Γ : gT} {l : Launch} {os : Nat} {oc : Nat} {s1 : Nat} {s2 : Nat} {s3 : Nat} {s4 : Nat} {s5 : Nat} {ts : flT} {ac : Nat → Nat} {tc : flT} {a1 : Int32} {K : (Int32) → (flT) → Prop}  (hw : wpX5_stop K  os oc s1 s2 s3 s4 s5 ts ac tc a1) : cI Γ l yX5_stop (ws_ yX5_stop cX5_stop 5 (some .int)) rmX5_stop E0 [.ref os, .int a1] [flW Γ 4 shX5 os (adL [oc, s1, s2, s3, s4, s5]) ts, flW Γ 3 shX4 oc ac tc] (fun u : (flT) => [flW Γ 4 shX5 os (adL [oc, s1, s2, s3, s4, s5]) u, flW Γ 3 shX4 oc ac tc]) (fun r u => K r u) := by
  refine cI_of (by decide +kernel) (Nat.le_of_ble_eq_true rfl) ?_
  intro p e s m args below meth c ls A Q hQ X hr hlk hnm hE Y hl
  have hx := X.1
  have hb := X.2.1
  have hl : lv_has ls 5 [(0, .ref os), (1, .int a1)] := hl
  unfold wpX5_stop at hw
  obtain ⟨H, hH⟩ : ∃ H : Heap, H = s.heap := ⟨_, rfl⟩
  obtain ⟨locs, hlo⟩ : ∃ locs : List Loc, locs = [] := ⟨_, rfl⟩
  rw [← hH, ← hlo] at Y
  rw [← hH, ← hlo]
  refine lv_aload_n hx hb dX5_stop_0 rfl (lv_at hl 0 rfl) ?_
  refine fl_get X Y 0 rfl fcX5 7 rfl (by decide) (X.2.2.2.2.1 _ q368) rfl dX5_stop_1 ?_
  refine lv_istore_n (lv' := [(2, .int (ts.1 7)), (0, .ref os), (1, .int a1)]) hx hb dX5_stop_4 rfl hl (by decide) rfl (fun ls hl => ?_)
  refine lv_iload_n hx hb dX5_stop_5 rfl (lv_at hl 2 rfl) ?_
  refine lv_istore_n (lv' := [(3, .int a1), (2, .int (ts.1 7)), (0, .ref os), (1, .int a1)]) hx hb dX5_stop_6 rfl hl (by decide) rfl (fun ls hl => ?_)
  obtain ⟨I1, hw0, hwI⟩ := hw
  have hI1 : ∀ (n2 : Nat) (x3 : Int32) (t4 : flT) (H : Heap) (locs : List Loc) (ls : Array Slot), I1 n2 x3 t4 → Wo Γ A s H locs [flW Γ 4 shX5 os (adL [oc, s1, s2, s3, s4, s5]) t4, flW Γ 3 shX4 oc ac tc] → lv_has ls 5 [(0, .ref os), (1, .int a1), (2, .int (ts.1 7)), (3, .int x3)] → W p l e rmX5_stop s m args below meth c H locs 0 0 Q (F0 m 7 ls []) := by
    intro n2
    induction n2 using Nat.strongRecOn with
    | ind n2 ihn2 =>
      intro x3 t4 H locs ls hw Y hl
      have hw := hwI n2 x3 t4 hw
      refine lv_iload_n hx hb dX5_stop_7 rfl (lv_at hl 3 rfl) ?_
      refine lv_aload_n hx hb dX5_stop_8 rfl (lv_at hl 0 rfl) ?_
      refine fl_get X Y 0 rfl fcX5 0 rfl (by decide) (X.2.2.2.2.1 _ q351) rfl dX5_stop_9 ?_
      refine fl_getN X Y 1 rfl fcX4 0 rfl (by decide) q305 rfl dX5_stop_12 ?_
      refine lv_icmp_ge (tgt := 67) hx hb dX5_stop_15 (by decide) (fun hc => ?_) (fun hc => ?_)
      · have hw := hw.1 hc
        refine lv_aload_n hx hb dX5_stop_67 rfl (lv_at hl 0 rfl) ?_
        refine fl_get X Y 0 rfl fcX5 7 rfl (by decide) (X.2.2.2.2.1 _ q368) rfl dX5_stop_68 ?_
        refine lv_iload_n hx hb dX5_stop_71 rfl (lv_at hl 2 rfl) ?_
        refine lv_isub hx hb dX5_stop_72 ?_
        subst hQ
        exact re_i X Y hr hlk t4 rfl rfl hw (Nat.le_of_ble_eq_true rfl) (Nat.le_of_ble_eq_true rfl) dX5_stop_73
      · have hw := hw.2 hc
        refine lv_iload_n hx hb dX5_stop_18 rfl (lv_at hl 3 rfl) ?_
        refine lv_iload_n hx hb dX5_stop_19 rfl (lv_at hl 1 rfl) ?_
        obtain ⟨J5, hwR, hw⟩ := hw
        have hJ5 : ∀ (x6 : Int32) (H : Heap) (locs : List Loc) (ls : Array Slot), J5 x6 → Wo Γ A s H locs [flW Γ 3 shX4 oc ac tc, flW Γ 4 shX5 os (adL [oc, s1, s2, s3, s4, s5]) t4] → lv_has ls 5 [(0, .ref os), (1, .int a1), (2, .int (ts.1 7)), (3, .int x3)] → W p l e rmX5_stop s m args below meth c H locs 0 0 Q (F0 m 40 ls [.int x6]) := by
          intro x6 H locs ls hw Y hl
          have hw := hwR x6 hw
          refine lv_istore (lv' := [(4, .int x6), (0, .ref os), (1, .int a1), (2, .int (ts.1 7)), (3, .int x3)]) hx hb dX5_stop_40 hl (by decide) rfl (fun ls hl => ?_)
          refine lv_iload hx hb dX5_stop_42 (lv_at hl 0 rfl) ?_
          obtain ⟨J7, hwR, hw⟩ := hw
          have hJ7 : ∀ (t8 : flT) (H : Heap) (locs : List Loc) (ls : Array Slot), J7 t8 → Wo Γ A s H locs [flW Γ 3 shX4 oc ac tc, flW Γ 4 shX5 os (adL [oc, s1, s2, s3, s4, s5]) t8] → lv_has ls 5 [(0, .ref os), (1, .int a1), (2, .int (ts.1 7)), (3, .int x3)] → W p l e rmX5_stop s m args below meth c H locs 0 0 Q (F0 m 61 ls []) := by
            intro t8 H locs ls hw Y hl
            have hw := hwR t8 hw
            refine lv_iinc (v := x3 + 1) (lv' := [(3, .int (x3 + 1)), (0, .ref os), (1, .int a1), (2, .int (ts.1 7))]) hx hb dX5_stop_61 hl (k := 3) rfl rfl (by decide) rfl (fun ls hl => ?_)
            refine lv_goto (tgt := 7) hx hb dX5_stop_64 (by decide) ?_
            have Y : Wo Γ A s H locs [flW Γ 4 shX5 os (adL [oc, s1, s2, s3, s4, s5]) t8, flW Γ 3 shX4 oc ac tc] := Y.perm [1, 0] rfl rfl
            obtain ⟨n9, hlt, hw⟩ := hw
            exact ihn2 n9 hlt (x3 + 1) t8 H locs ls hw Y (lv_sub hl [1, 2, 3, 0] rfl)
          refine lv_if_eq (tgt := 61) hx hb dX5_stop_44 (by decide) (fun hc => ?_) (fun hc => ?_)
          · have hw := hw.1 hc
            exact hJ7 t4 H locs ls hw Y (lv_sub hl [1, 2, 3, 4] rfl)
          · have hw := hw.2 hc
            refine lv_aload_n hx hb dX5_stop_47 rfl (lv_at hl 1 rfl) ?_
            refine fl_get X Y 1 rfl fcX5 3 rfl (by decide) (X.2.2.2.2.1 _ q358) rfl dX5_stop_48 ?_
            refine lv_iload_n hx hb dX5_stop_51 rfl (lv_at hl 4 rfl) ?_
            refine fl_ald2 X Y 1 rfl 3 rfl hw.1 dX5_stop_52 ?_
            have hw := hw.2
            refine lv_if_ne (tgt := 61) hx hb dX5_stop_53 (by decide) (fun hc => ?_) (fun hc => ?_)
            · have hw := hw.2 hc
              exact hJ7 t4 H locs ls hw Y (lv_sub hl [1, 2, 3, 4] rfl)
            · have hw := hw.1 hc
              refine lv_aload_n hx hb dX5_stop_56 rfl (lv_at hl 1 rfl) ?_
              refine lv_iload_n hx hb dX5_stop_57 rfl (lv_at hl 4 rfl) ?_
              refine cv_VV X Y [1, 0] [] rfl rfl rfl E0_bl (fun _ _ _ => trivial) (mtX5_stopOne (Γ := Γ) (l := l) hw) (lw_V q1779 q1781 qs12 q144 q1782) ⟨rfl, hdX5_stopOne⟩ ⟨Nat.le_of_ble_eq_true rfl, Nat.le_of_ble_eq_true rfl⟩ (ob_cell X Y (b := 1) rfl List.mem_cons_self fcX5) rfl hl.1 rfl (Nat.le_of_ble_eq_true rfl) dX5_stop_58 ⟨Nat.le_of_ble_eq_true rfl, Nat.le_of_ble_eq_true rfl⟩ (fun  u H locs hw Y => ?_)
              obtain ⟨t10, rfl⟩ : ∃ z, z = u := ⟨_, rfl⟩
              have Y : Wo Γ A s H locs [flW Γ 4 shX5 os (adL [oc, s1, s2, s3, s4, s5]) t10, flW Γ 3 shX4 oc ac tc] := Y
              have Y : Wo Γ A s H locs [flW Γ 3 shX4 oc ac tc, flW Γ 4 shX5 os (adL [oc, s1, s2, s3, s4, s5]) t10] := Y.perm [1, 0] rfl rfl
              exact hJ7 t10 H locs ls hw Y (lv_sub hl [1, 2, 3, 4] rfl)
        obtain ⟨J11, hwR, hw⟩ := hw
        have hJ11 : ∀ (H : Heap) (locs : List Loc) (ls : Array Slot), J11  → Wo Γ A s H locs [flW Γ 4 shX5 os (adL [oc, s1, s2, s3, s4, s5]) t4, flW Γ 3 shX4 oc ac tc] → lv_has ls 5 [(0, .ref os), (1, .int a1), (2, .int (ts.1 7)), (3, .int x3)] → W p l e rmX5_stop s m args below meth c H locs 0 0 Q (F0 m 35 ls []) := by
          intro  H locs ls hw Y hl
          have hw := hwR  hw
          refine lv_iconst (v := 1) hx hb dX5_stop_35 rfl ?_
          refine lv_goto (tgt := 40) hx hb dX5_stop_36 (by decide) ?_
          have Y : Wo Γ A s H locs [flW Γ 3 shX4 oc ac tc, flW Γ 4 shX5 os (adL [oc, s1, s2, s3, s4, s5]) t4] := Y.perm [1, 0] rfl rfl
          exact hJ5 1 H locs ls hw Y (lv_sub hl [0, 1, 2, 3] rfl)
        refine lv_icmp_eq (tgt := 35) hx hb dX5_stop_20 (by decide) (fun hc => ?_) (fun hc => ?_)
        · have hw := hw.1 hc
          exact hJ11  H locs ls hw Y (lv_sub hl [0, 1, 2, 3] rfl)
        · have hw := hw.2 hc
          refine lv_aload_n hx hb dX5_stop_23 rfl (lv_at hl 0 rfl) ?_
          refine fl_get X Y 0 rfl fcX5 0 rfl (by decide) (X.2.2.2.2.1 _ q351) rfl dX5_stop_24 ?_
          refine lv_iload_n hx hb dX5_stop_27 rfl (lv_at hl 3 rfl) ?_
          refine lv_iload_n hx hb dX5_stop_28 rfl (lv_at hl 1 rfl) ?_
          refine cv_VI X Y [1] [0] rfl rfl rfl E0_bl (fun _ _ _ => trivial) (mtX4_isBelow (Γ := Γ) (l := l) hw) (lw_V q1778 q1711 q1712 q143 q1713) ⟨rfl, hdX4_isBelow⟩ ⟨Nat.le_of_ble_eq_true rfl, Nat.le_of_ble_eq_true rfl⟩ (ob_cell X Y (b := 1) rfl List.mem_cons_self fcX4) rfl hl.1 rfl (Nat.le_of_ble_eq_true rfl) dX5_stop_29 ⟨Nat.le_of_ble_eq_true rfl, Nat.le_of_ble_eq_true rfl⟩ (fun r12 u H locs hw Y => ?_)
          have Y : Wo Γ A s H locs [flW Γ 3 shX4 oc ac tc, flW Γ 4 shX5 os (adL [oc, s1, s2, s3, s4, s5]) t4] := Y
          refine lv_if_eq (tgt := 39) hx hb dX5_stop_32 (by decide) (fun hc => ?_) (fun hc => ?_)
          · have hw := hw.1 hc
            refine lv_iconst (v := 0) hx hb dX5_stop_39 rfl ?_
            exact hJ5 0 H locs ls hw Y (lv_sub hl [0, 1, 2, 3] rfl)
          · have hw := hw.2 hc
            have Y : Wo Γ A s H locs [flW Γ 4 shX5 os (adL [oc, s1, s2, s3, s4, s5]) t4, flW Γ 3 shX4 oc ac tc] := Y.perm [1, 0] rfl rfl
            exact hJ11  H locs ls hw Y (lv_sub hl [0, 1, 2, 3] rfl)
  obtain ⟨n0, hw0⟩ := hw0
  exact hI1 n0 a1 ts H locs ls hw0 Y (lv_sub hl [2, 3, 1, 0] rfl)
def wpX5_restart (K : (flT) → Prop)  (os : Nat) (oc : Nat) (s1 : Nat) (s2 : Nat) (s3 : Nat) (s4 : Nat) (s5 : Nat) (ts : flT) (ac : Nat → Nat) (tc : flT) (a1 : Int32) : Prop := vp_in a1 8 ∧ (vp_in a1 8 ∧ (∀ t1 : flT, t1 = (ts.1, va_up ts.2.1 2 (upd (ts.2.1 2) a1.toNatClampNeg ((ts.2.1 2 a1.toNatClampNeg) + 1)), ts.2.2) → (∃ I2 : Nat → (Int32) → (flT) → Prop, (∃ n, I2 n a1 t1) ∧ ∀ (n3 : Nat) (x4 : Int32) (t5 : flT), I2 n3 x4 t5 → (((tc.1 0) ≤ x4 → (K t5)) ∧ (¬ (tc.1 0) ≤ x4 → (∃ J6 : (Int32) → Prop, (∀ (x7 : Int32), J6 x7 → (∃ J8 : (Int32) → Prop, (∀ (x9 : Int32), J8 x9 → (vp_in x4 8 ∧ (∃ n10, n10 < n3 ∧ I2 n10 (x4 + 1) (t5.1, va_up t5.2.1 1 (upd (t5.2.1 1) x4.toNatClampNeg x9), t5.2.2)))) ∧ (∃ J11 : Prop, (J11 → (vp_in x4 8 ∧ (J8 (t5.2.1 1 x4.toNatClampNeg)))) ∧ ((x7 = 0 → (J11)) ∧ (¬ x7 = 0 → (vp_in x4 8 ∧ (((t5.2.1 3 x4.toNatClampNeg) = 0 → (J8 0)) ∧ (¬ (t5.2.1 3 x4.toNatClampNeg) = 0 → (J11))))))))) ∧ (∃ J12 : Prop, (J12 → (J6 1)) ∧ ((x4 = a1 → (J12)) ∧ (¬ x4 = a1 → (wpX4_isBelow (fun r13 => ((r13 = 0 → (J6 0)) ∧ (¬ r13 = 0 → (J12))))  oc ac tc x4 a1))))))))))
abbrev rmX5_restart : Room := { frames := 1, cells := 0, slots := 0, locals := 23 }
theorem hdX5_restart : yX5_restart.cls ≠ "java/lang/invoke/MethodHandle" ∧ yX5_restart.cls ≠ "java/lang/invoke/VarHandle" ∧ (parseMethodDescriptor yX5_restart.desc).map (fun d => d.parameters.length) = some 1 := by decide +kernel
theorem hpX5_restart : yX5_restart.name ≠ "<init>" ∧ (parseMethodDescriptor yX5_restart.desc).map (fun d => d.parameters.length) = some 1 := by decide +kernel
theorem huX5_restart : RX5 ≠ "java/lang/invoke/MethodHandle" ∧ RX5 ≠ "java/lang/invoke/VarHandle" ∧ (parseMethodDescriptor yX5_restart.desc).map (fun d => d.parameters.length) = some 1 := by decide +kernel
set_option maxHeartbeats 4000000 in
theorem mtX5_restart {Γ : gT} {l : Launch} {os : Nat} {oc : Nat} {s1 : Nat} {s2 : Nat} {s3 : Nat} {s4 : Nat} {s5 : Nat} {ts : flT} {ac : Nat → Nat} {tc : flT} {a1 : Int32} {K : (flT) → Prop}  (hw : wpX5_restart K  os oc s1 s2 s3 s4 s5 ts ac tc a1) : cV Γ l yX5_restart (ws_ yX5_restart cX5_restart 4 none) rmX5_restart E0 [.ref os, .int a1] [flW Γ 4 shX5 os (adL [oc, s1, s2, s3, s4, s5]) ts, flW Γ 3 shX4 oc ac tc] (fun u : (flT) => [flW Γ 4 shX5 os (adL [oc, s1, s2, s3, s4, s5]) u, flW Γ 3 shX4 oc ac tc]) (fun u => K u) := by
  refine cV_of (by decide +kernel) (Nat.le_of_ble_eq_true rfl) ?_
  intro p e s m args below meth c ls A Q hQ X hr hlk hnm hE Y hl
  have hx := X.1
  have hb := X.2.1
  have hl : lv_has ls 4 [(0, .ref os), (1, .int a1)] := hl
  unfold wpX5_restart at hw
  obtain ⟨H, hH⟩ : ∃ H : Heap, H = s.heap := ⟨_, rfl⟩
  obtain ⟨locs, hlo⟩ : ∃ locs : List Loc, locs = [] := ⟨_, rfl⟩
  rw [← hH, ← hlo] at Y
  rw [← hH, ← hlo]
  refine lv_aload_n hx hb dX5_restart_0 rfl (lv_at hl 0 rfl) ?_
  refine fl_get X Y 0 rfl fcX5 2 rfl (by decide) (X.2.2.2.2.1 _ q356) rfl dX5_restart_1 ?_
  refine lv_iload_n hx hb dX5_restart_4 rfl (lv_at hl 1 rfl) ?_
  refine lv_dup2_11 hx hb dX5_restart_5 rfl rfl ?_
  refine fl_ald0 X Y 0 rfl 2 rfl hw.1 dX5_restart_6 ?_
  have hw := hw.2
  refine lv_iconst (v := 1) hx hb dX5_restart_7 rfl ?_
  refine lv_iadd hx hb dX5_restart_8 ?_
  refine fl_ast0 X Y 0 rfl 2 rfl hw.1 dX5_restart_9 (fun H locs Y => ?_)
  have hw := hw.2
  obtain ⟨t1, ht1⟩ : ∃ z : flT, z = (ts.1, va_up ts.2.1 2 (upd (ts.2.1 2) a1.toNatClampNeg ((ts.2.1 2 a1.toNatClampNeg) + 1)), ts.2.2) := ⟨_, rfl⟩
  have Y : Wo Γ A s H locs [flW Γ 4 shX5 os (adL [oc, s1, s2, s3, s4, s5]) t1, flW Γ 3 shX4 oc ac tc] := by rw [ht1]; exact Y
  have hw := hw t1 ht1
  refine lv_iload_n hx hb dX5_restart_10 rfl (lv_at hl 1 rfl) ?_
  refine lv_istore_n (lv' := [(2, .int a1), (0, .ref os), (1, .int a1)]) hx hb dX5_restart_11 rfl hl (by decide) rfl (fun ls hl => ?_)
  obtain ⟨I2, hw0, hwI⟩ := hw
  have hI2 : ∀ (n3 : Nat) (x4 : Int32) (t5 : flT) (H : Heap) (locs : List Loc) (ls : Array Slot), I2 n3 x4 t5 → Wo Γ A s H locs [flW Γ 4 shX5 os (adL [oc, s1, s2, s3, s4, s5]) t5, flW Γ 3 shX4 oc ac tc] → lv_has ls 4 [(0, .ref os), (1, .int a1), (2, .int x4)] → W p l e rmX5_restart s m args below meth c H locs 0 0 Q (F0 m 12 ls []) := by
    intro n3
    induction n3 using Nat.strongRecOn with
    | ind n3 ihn3 =>
      intro x4 t5 H locs ls hw Y hl
      have hw := hwI n3 x4 t5 hw
      refine lv_iload_n hx hb dX5_restart_12 rfl (lv_at hl 2 rfl) ?_
      refine lv_aload_n hx hb dX5_restart_13 rfl (lv_at hl 0 rfl) ?_
      refine fl_get X Y 0 rfl fcX5 0 rfl (by decide) (X.2.2.2.2.1 _ q351) rfl dX5_restart_14 ?_
      refine fl_getN X Y 1 rfl fcX4 0 rfl (by decide) q305 rfl dX5_restart_17 ?_
      refine lv_icmp_ge (tgt := 81) hx hb dX5_restart_20 (by decide) (fun hc => ?_) (fun hc => ?_)
      · have hw := hw.1 hc
        subst hQ
        exact re_v X Y hr hlk t5 rfl hw (Nat.le_of_ble_eq_true rfl) (Nat.le_of_ble_eq_true rfl) dX5_restart_81
      · have hw := hw.2 hc
        refine lv_iload_n hx hb dX5_restart_23 rfl (lv_at hl 2 rfl) ?_
        refine lv_iload_n hx hb dX5_restart_24 rfl (lv_at hl 1 rfl) ?_
        obtain ⟨J6, hwR, hw⟩ := hw
        have hJ6 : ∀ (x7 : Int32) (H : Heap) (locs : List Loc) (ls : Array Slot), J6 x7 → Wo Γ A s H locs [flW Γ 3 shX4 oc ac tc, flW Γ 4 shX5 os (adL [oc, s1, s2, s3, s4, s5]) t5] → lv_has ls 4 [(0, .ref os), (1, .int a1), (2, .int x4)] → W p l e rmX5_restart s m args below meth c H locs 0 0 Q (F0 m 45 ls [.int x7]) := by
          intro x7 H locs ls hw Y hl
          have hw := hwR x7 hw
          refine lv_istore_n (lv' := [(3, .int x7), (0, .ref os), (1, .int a1), (2, .int x4)]) hx hb dX5_restart_45 rfl hl (by decide) rfl (fun ls hl => ?_)
          refine lv_aload_n hx hb dX5_restart_46 rfl (lv_at hl 1 rfl) ?_
          refine fl_get X Y 1 rfl fcX5 1 rfl (by decide) (X.2.2.2.2.1 _ q352) rfl dX5_restart_47 ?_
          refine lv_iload_n hx hb dX5_restart_50 rfl (lv_at hl 3 rfl) ?_
          refine lv_iload_n hx hb dX5_restart_51 rfl (lv_at hl 0 rfl) ?_
          obtain ⟨J8, hwR, hw⟩ := hw
          have hJ8 : ∀ (x9 : Int32) (H : Heap) (locs : List Loc) (ls : Array Slot), J8 x9 → Wo Γ A s H locs [flW Γ 3 shX4 oc ac tc, flW Γ 4 shX5 os (adL [oc, s1, s2, s3, s4, s5]) t5] → lv_has ls 4 [(0, .ref os), (1, .int a1), (2, .int x4)] → W p l e rmX5_restart s m args below meth c H locs 0 0 Q (F0 m 74 ls [.int x9, .int x4, .ref ((adL [oc, s1, s2, s3, s4, s5]) 1)]) := by
            intro x9 H locs ls hw Y hl
            have hw := hwR x9 hw
            refine fl_ast0 X Y 1 rfl 1 rfl hw.1 dX5_restart_74 (fun H locs Y => ?_)
            have hw := hw.2
            have Y : Wo Γ A s H locs [flW Γ 3 shX4 oc ac tc, flW Γ 4 shX5 os (adL [oc, s1, s2, s3, s4, s5]) (t5.1, va_up t5.2.1 1 (upd (t5.2.1 1) x4.toNatClampNeg x9), t5.2.2)] := Y
            refine lv_iinc (v := x4 + 1) (lv' := [(2, .int (x4 + 1)), (0, .ref os), (1, .int a1)]) hx hb dX5_restart_75 hl (k := 2) rfl rfl (by decide) rfl (fun ls hl => ?_)
            refine lv_goto (tgt := 12) hx hb dX5_restart_78 (by decide) ?_
            have Y : Wo Γ A s H locs [flW Γ 4 shX5 os (adL [oc, s1, s2, s3, s4, s5]) (t5.1, va_up t5.2.1 1 (upd (t5.2.1 1) x4.toNatClampNeg x9), t5.2.2), flW Γ 3 shX4 oc ac tc] := Y.perm [1, 0] rfl rfl
            obtain ⟨n10, hlt, hw⟩ := hw
            exact ihn3 n10 hlt (x4 + 1) (t5.1, va_up t5.2.1 1 (upd (t5.2.1 1) x4.toNatClampNeg x9), t5.2.2) H locs ls hw Y (lv_sub hl [1, 2, 0] rfl)
          obtain ⟨J11, hwR, hw⟩ := hw
          have hJ11 : ∀ (H : Heap) (locs : List Loc) (ls : Array Slot), J11  → Wo Γ A s H locs [flW Γ 3 shX4 oc ac tc, flW Γ 4 shX5 os (adL [oc, s1, s2, s3, s4, s5]) t5] → lv_has ls 4 [(0, .ref os), (1, .int a1), (2, .int x4)] → W p l e rmX5_restart s m args below meth c H locs 0 0 Q (F0 m 68 ls [.int x4, .ref ((adL [oc, s1, s2, s3, s4, s5]) 1)]) := by
            intro  H locs ls hw Y hl
            have hw := hwR  hw
            refine lv_aload_n hx hb dX5_restart_68 rfl (lv_at hl 0 rfl) ?_
            refine fl_get X Y 1 rfl fcX5 1 rfl (by decide) (X.2.2.2.2.1 _ q352) rfl dX5_restart_69 ?_
            refine lv_iload_n hx hb dX5_restart_72 rfl (lv_at hl 2 rfl) ?_
            refine fl_ald0 X Y 1 rfl 1 rfl hw.1 dX5_restart_73 ?_
            have hw := hw.2
            exact hJ8 (t5.2.1 1 x4.toNatClampNeg) H locs ls hw Y (lv_sub hl [0, 1, 2] rfl)
          refine lv_if_eq (tgt := 68) hx hb dX5_restart_52 (by decide) (fun hc => ?_) (fun hc => ?_)
          · have hw := hw.1 hc
            exact hJ11  H locs ls hw Y (lv_sub hl [1, 2, 3] rfl)
          · have hw := hw.2 hc
            refine lv_aload_n hx hb dX5_restart_55 rfl (lv_at hl 1 rfl) ?_
            refine fl_get X Y 1 rfl fcX5 3 rfl (by decide) (X.2.2.2.2.1 _ q358) rfl dX5_restart_56 ?_
            refine lv_iload_n hx hb dX5_restart_59 rfl (lv_at hl 3 rfl) ?_
            refine fl_ald2 X Y 1 rfl 3 rfl hw.1 dX5_restart_60 ?_
            have hw := hw.2
            refine lv_if_ne (tgt := 68) hx hb dX5_restart_61 (by decide) (fun hc => ?_) (fun hc => ?_)
            · have hw := hw.2 hc
              exact hJ11  H locs ls hw Y (lv_sub hl [1, 2, 3] rfl)
            · have hw := hw.1 hc
              refine lv_iconst (v := 0) hx hb dX5_restart_64 rfl ?_
              refine lv_goto (tgt := 74) hx hb dX5_restart_65 (by decide) ?_
              exact hJ8 0 H locs ls hw Y (lv_sub hl [1, 2, 3] rfl)
        obtain ⟨J12, hwR, hw⟩ := hw
        have hJ12 : ∀ (H : Heap) (locs : List Loc) (ls : Array Slot), J12  → Wo Γ A s H locs [flW Γ 4 shX5 os (adL [oc, s1, s2, s3, s4, s5]) t5, flW Γ 3 shX4 oc ac tc] → lv_has ls 4 [(0, .ref os), (1, .int a1), (2, .int x4)] → W p l e rmX5_restart s m args below meth c H locs 0 0 Q (F0 m 40 ls []) := by
          intro  H locs ls hw Y hl
          have hw := hwR  hw
          refine lv_iconst (v := 1) hx hb dX5_restart_40 rfl ?_
          refine lv_goto (tgt := 45) hx hb dX5_restart_41 (by decide) ?_
          have Y : Wo Γ A s H locs [flW Γ 3 shX4 oc ac tc, flW Γ 4 shX5 os (adL [oc, s1, s2, s3, s4, s5]) t5] := Y.perm [1, 0] rfl rfl
          exact hJ6 1 H locs ls hw Y (lv_sub hl [0, 1, 2] rfl)
        refine lv_icmp_eq (tgt := 40) hx hb dX5_restart_25 (by decide) (fun hc => ?_) (fun hc => ?_)
        · have hw := hw.1 hc
          exact hJ12  H locs ls hw Y (lv_sub hl [0, 1, 2] rfl)
        · have hw := hw.2 hc
          refine lv_aload_n hx hb dX5_restart_28 rfl (lv_at hl 0 rfl) ?_
          refine fl_get X Y 0 rfl fcX5 0 rfl (by decide) (X.2.2.2.2.1 _ q351) rfl dX5_restart_29 ?_
          refine lv_iload_n hx hb dX5_restart_32 rfl (lv_at hl 2 rfl) ?_
          refine lv_iload_n hx hb dX5_restart_33 rfl (lv_at hl 1 rfl) ?_
          refine cv_VI X Y [1] [0] rfl rfl rfl E0_bl (fun _ _ _ => trivial) (mtX4_isBelow (Γ := Γ) (l := l) hw) (lw_V q1778 q1711 q1712 q143 q1713) ⟨rfl, hdX4_isBelow⟩ ⟨Nat.le_of_ble_eq_true rfl, Nat.le_of_ble_eq_true rfl⟩ (ob_cell X Y (b := 1) rfl List.mem_cons_self fcX4) rfl hl.1 rfl (Nat.le_of_ble_eq_true rfl) dX5_restart_34 ⟨Nat.le_of_ble_eq_true rfl, Nat.le_of_ble_eq_true rfl⟩ (fun r13 u H locs hw Y => ?_)
          have Y : Wo Γ A s H locs [flW Γ 3 shX4 oc ac tc, flW Γ 4 shX5 os (adL [oc, s1, s2, s3, s4, s5]) t5] := Y
          refine lv_if_eq (tgt := 44) hx hb dX5_restart_37 (by decide) (fun hc => ?_) (fun hc => ?_)
          · have hw := hw.1 hc
            refine lv_iconst (v := 0) hx hb dX5_restart_44 rfl ?_
            exact hJ6 0 H locs ls hw Y (lv_sub hl [0, 1, 2] rfl)
          · have hw := hw.2 hc
            have Y : Wo Γ A s H locs [flW Γ 4 shX5 os (adL [oc, s1, s2, s3, s4, s5]) t5, flW Γ 3 shX4 oc ac tc] := Y.perm [1, 0] rfl rfl
            exact hJ12  H locs ls hw Y (lv_sub hl [0, 1, 2] rfl)
  obtain ⟨n0, hw0⟩ := hw0
  exact hI2 n0 a1 t1 H locs ls hw0 Y (lv_sub hl [1, 2, 0] rfl)
def wpX5_receive (K : (flT) → Prop)  (os : Nat) (oc : Nat) (s1 : Nat) (s2 : Nat) (s3 : Nat) (s4 : Nat) (s5 : Nat) (ts : flT) (ac : Nat → Nat) (tc : flT) (a1 : Int32) (a2 : Int32) : Prop := vp_in a1 8 ∧ (((ts.2.1 3 a1.toNatClampNeg) = 0 → (wpX5_put (fun t1 => (K t1))  os oc s1 s2 s3 s4 s5 ts ac tc a1 a2)) ∧ (¬ (ts.2.1 3 a1.toNatClampNeg) = 0 → (K (upd ts.1 7 ((ts.1 7) + 1), ts.2))))
abbrev rmX5_receive : Room := { frames := 1, cells := 0, slots := 0, locals := 22 }
theorem hdX5_receive : yX5_receive.cls ≠ "java/lang/invoke/MethodHandle" ∧ yX5_receive.cls ≠ "java/lang/invoke/VarHandle" ∧ (parseMethodDescriptor yX5_receive.desc).map (fun d => d.parameters.length) = some 2 := by decide +kernel
theorem hpX5_receive : yX5_receive.name ≠ "<init>" ∧ (parseMethodDescriptor yX5_receive.desc).map (fun d => d.parameters.length) = some 2 := by decide +kernel
theorem huX5_receive : RX5 ≠ "java/lang/invoke/MethodHandle" ∧ RX5 ≠ "java/lang/invoke/VarHandle" ∧ (parseMethodDescriptor yX5_receive.desc).map (fun d => d.parameters.length) = some 2 := by decide +kernel
set_option maxHeartbeats 4000000 in
theorem mtX5_receive {Γ : gT} {l : Launch} {os : Nat} {oc : Nat} {s1 : Nat} {s2 : Nat} {s3 : Nat} {s4 : Nat} {s5 : Nat} {ts : flT} {ac : Nat → Nat} {tc : flT} {a1 : Int32} {a2 : Int32} {K : (flT) → Prop}  (hw : wpX5_receive K  os oc s1 s2 s3 s4 s5 ts ac tc a1 a2) : cV Γ l yX5_receive (ws_ yX5_receive cX5_receive 3 none) rmX5_receive E0 [.ref os, .int a1, .int a2] [flW Γ 4 shX5 os (adL [oc, s1, s2, s3, s4, s5]) ts, flW Γ 3 shX4 oc ac tc] (fun u : (flT) => [flW Γ 4 shX5 os (adL [oc, s1, s2, s3, s4, s5]) u, flW Γ 3 shX4 oc ac tc]) (fun u => K u) := by
  refine cV_of (by decide +kernel) (Nat.le_of_ble_eq_true rfl) ?_
  intro p e s m args below meth c ls A Q hQ X hr hlk hnm hE Y hl
  have hx := X.1
  have hb := X.2.1
  have hl : lv_has ls 3 [(0, .ref os), (1, .int a1), (2, .int a2)] := hl
  unfold wpX5_receive at hw
  obtain ⟨H, hH⟩ : ∃ H : Heap, H = s.heap := ⟨_, rfl⟩
  obtain ⟨locs, hlo⟩ : ∃ locs : List Loc, locs = [] := ⟨_, rfl⟩
  rw [← hH, ← hlo] at Y
  rw [← hH, ← hlo]
  refine lv_aload_n hx hb dX5_receive_0 rfl (lv_at hl 0 rfl) ?_
  refine fl_get X Y 0 rfl fcX5 3 rfl (by decide) (X.2.2.2.2.1 _ q358) rfl dX5_receive_1 ?_
  refine lv_iload_n hx hb dX5_receive_4 rfl (lv_at hl 1 rfl) ?_
  refine fl_ald2 X Y 0 rfl 3 rfl hw.1 dX5_receive_5 ?_
  have hw := hw.2
  refine lv_if_eq (tgt := 22) hx hb dX5_receive_6 (by decide) (fun hc => ?_) (fun hc => ?_)
  · have hw := hw.1 hc
    refine lv_aload_n hx hb dX5_receive_22 rfl (lv_at hl 0 rfl) ?_
    refine lv_iload_n hx hb dX5_receive_23 rfl (lv_at hl 1 rfl) ?_
    refine lv_iload_n hx hb dX5_receive_24 rfl (lv_at hl 2 rfl) ?_
    refine cv_VV X Y [0, 1] [] rfl rfl rfl E0_bl (fun _ _ _ => trivial) (mtX5_put (Γ := Γ) (l := l) hw) (lw_V q1733 q1735 qs11 q144 q1736) ⟨rfl, hdX5_put⟩ ⟨Nat.le_of_ble_eq_true rfl, Nat.le_of_ble_eq_true rfl⟩ (ob_cell X Y (b := 0) rfl List.mem_cons_self fcX5) rfl hl.1 rfl (Nat.le_of_ble_eq_true rfl) dX5_receive_25 ⟨Nat.le_of_ble_eq_true rfl, Nat.le_of_ble_eq_true rfl⟩ (fun  u H locs hw Y => ?_)
    obtain ⟨t1, rfl⟩ : ∃ z, z = u := ⟨_, rfl⟩
    have Y : Wo Γ A s H locs [flW Γ 4 shX5 os (adL [oc, s1, s2, s3, s4, s5]) t1, flW Γ 3 shX4 oc ac tc] := Y
    subst hQ
    exact re_v X Y hr hlk t1 rfl hw (Nat.le_of_ble_eq_true rfl) (Nat.le_of_ble_eq_true rfl) dX5_receive_28
  · have hw := hw.2 hc
    refine lv_aload_n hx hb dX5_receive_9 rfl (lv_at hl 0 rfl) ?_
    refine lv_dup hx hb dX5_receive_10 rfl ?_
    refine fl_get X Y 0 rfl fcX5 7 rfl (by decide) (X.2.2.2.2.1 _ q368) rfl dX5_receive_11 ?_
    refine lv_iconst (v := 1) hx hb dX5_receive_14 rfl ?_
    refine lv_iadd hx hb dX5_receive_15 ?_
    refine fl_put X Y 0 rfl fcX5 7 rfl (by decide) (X.2.2.2.2.1 _ q368) rfl rfl rfl dX5_receive_16 (fun H locs Y => ?_)
    have Y : Wo Γ A s H locs [flW Γ 4 shX5 os (adL [oc, s1, s2, s3, s4, s5]) (upd ts.1 7 ((ts.1 7) + 1), ts.2), flW Γ 3 shX4 oc ac tc] := Y
    refine lv_goto (tgt := 28) hx hb dX5_receive_19 (by decide) ?_
    subst hQ
    exact re_v X Y hr hlk (upd ts.1 7 ((ts.1 7) + 1), ts.2) rfl hw (Nat.le_of_ble_eq_true rfl) (Nat.le_of_ble_eq_true rfl) dX5_receive_28
def wpX5_forward (K : (flT) → Prop)  (os : Nat) (oc : Nat) (s1 : Nat) (s2 : Nat) (s3 : Nat) (s4 : Nat) (s5 : Nat) (ts : flT) (ac : Nat → Nat) (tc : flT) (a1 : Int32) (a2 : Int32) (a3 : Int32) : Prop := vp_in a1 8 ∧ ((2 < a3 → (K ts)) ∧ (¬ 2 < a3 → (wpX5_receive (fun t1 => (K t1))  os oc s1 s2 s3 s4 s5 ts ac tc (tc.2.1 5 a1.toNatClampNeg) (((4 : Int32) * a2) + a3))))
abbrev rmX5_forward : Room := { frames := 2, cells := 0, slots := 0, locals := 44 }
theorem hdX5_forward : yX5_forward.cls ≠ "java/lang/invoke/MethodHandle" ∧ yX5_forward.cls ≠ "java/lang/invoke/VarHandle" ∧ (parseMethodDescriptor yX5_forward.desc).map (fun d => d.parameters.length) = some 3 := by decide +kernel
theorem hpX5_forward : yX5_forward.name ≠ "<init>" ∧ (parseMethodDescriptor yX5_forward.desc).map (fun d => d.parameters.length) = some 3 := by decide +kernel
theorem huX5_forward : RX5 ≠ "java/lang/invoke/MethodHandle" ∧ RX5 ≠ "java/lang/invoke/VarHandle" ∧ (parseMethodDescriptor yX5_forward.desc).map (fun d => d.parameters.length) = some 3 := by decide +kernel
set_option maxHeartbeats 4000000 in
theorem mtX5_forward {Γ : gT} {l : Launch} {os : Nat} {oc : Nat} {s1 : Nat} {s2 : Nat} {s3 : Nat} {s4 : Nat} {s5 : Nat} {ts : flT} {ac : Nat → Nat} {tc : flT} {a1 : Int32} {a2 : Int32} {a3 : Int32} {K : (flT) → Prop}  (hw : wpX5_forward K  os oc s1 s2 s3 s4 s5 ts ac tc a1 a2 a3) : cV Γ l yX5_forward (ws_ yX5_forward cX5_forward 5 none) rmX5_forward E0 [.ref os, .int a1, .int a2, .int a3] [flW Γ 4 shX5 os (adL [oc, s1, s2, s3, s4, s5]) ts, flW Γ 3 shX4 oc ac tc] (fun u : (flT) => [flW Γ 4 shX5 os (adL [oc, s1, s2, s3, s4, s5]) u, flW Γ 3 shX4 oc ac tc]) (fun u => K u) := by
  refine cV_of (by decide +kernel) (Nat.le_of_ble_eq_true rfl) ?_
  intro p e s m args below meth c ls A Q hQ X hr hlk hnm hE Y hl
  have hx := X.1
  have hb := X.2.1
  have hl : lv_has ls 5 [(0, .ref os), (1, .int a1), (2, .int a2), (3, .int a3)] := hl
  unfold wpX5_forward at hw
  obtain ⟨H, hH⟩ : ∃ H : Heap, H = s.heap := ⟨_, rfl⟩
  obtain ⟨locs, hlo⟩ : ∃ locs : List Loc, locs = [] := ⟨_, rfl⟩
  rw [← hH, ← hlo] at Y
  rw [← hH, ← hlo]
  refine lv_aload_n hx hb dX5_forward_0 rfl (lv_at hl 0 rfl) ?_
  refine fl_get X Y 0 rfl fcX5 0 rfl (by decide) (X.2.2.2.2.1 _ q351) rfl dX5_forward_1 ?_
  refine fl_getN X Y 1 rfl fcX4 5 rfl (by decide) q321 rfl dX5_forward_4 ?_
  refine lv_iload_n hx hb dX5_forward_7 rfl (lv_at hl 1 rfl) ?_
  refine fl_ald0 X Y 1 rfl 5 rfl hw.1 dX5_forward_8 ?_
  have hw := hw.2
  refine lv_istore (lv' := [(4, .int (tc.2.1 5 a1.toNatClampNeg)), (0, .ref os), (1, .int a1), (2, .int a2), (3, .int a3)]) hx hb dX5_forward_9 hl (by decide) rfl (fun ls hl => ?_)
  refine lv_iload_n hx hb dX5_forward_11 rfl (lv_at hl 4 rfl) ?_
  refine lv_iconst (v := 2) hx hb dX5_forward_12 rfl ?_
  refine lv_icmp_gt (tgt := 27) hx hb dX5_forward_13 (by decide) (fun hc => ?_) (fun hc => ?_)
  · have hw := hw.1 hc
    subst hQ
    exact re_v X Y hr hlk ts rfl hw (Nat.le_of_ble_eq_true rfl) (Nat.le_of_ble_eq_true rfl) dX5_forward_27
  · have hw := hw.2 hc
    refine lv_aload_n hx hb dX5_forward_16 rfl (lv_at hl 1 rfl) ?_
    refine lv_iload hx hb dX5_forward_17 (lv_at hl 0 rfl) ?_
    refine lv_iconst (v := 4) hx hb dX5_forward_19 rfl ?_
    refine lv_iload_n hx hb dX5_forward_20 rfl (lv_at hl 3 rfl) ?_
    refine lv_imul hx hb dX5_forward_21 ?_
    refine lv_iload_n hx hb dX5_forward_22 rfl (lv_at hl 4 rfl) ?_
    refine lv_iadd hx hb dX5_forward_23 ?_
    refine cv_VV X Y [0, 1] [] rfl rfl rfl E0_bl (fun _ _ _ => trivial) (mtX5_receive (Γ := Γ) (l := l) hw) (lw_V q2122 q1730 q1731 q144 q1732) ⟨rfl, hdX5_receive⟩ ⟨Nat.le_of_ble_eq_true rfl, Nat.le_of_ble_eq_true rfl⟩ (ob_cell X Y (b := 0) rfl List.mem_cons_self fcX5) rfl hl.1 rfl (Nat.le_of_ble_eq_true rfl) dX5_forward_24 ⟨Nat.le_of_ble_eq_true rfl, Nat.le_of_ble_eq_true rfl⟩ (fun  u H locs hw Y => ?_)
    obtain ⟨t1, rfl⟩ : ∃ z, z = u := ⟨_, rfl⟩
    have Y : Wo Γ A s H locs [flW Γ 4 shX5 os (adL [oc, s1, s2, s3, s4, s5]) t1, flW Γ 3 shX4 oc ac tc] := Y
    subst hQ
    exact re_v X Y hr hlk t1 rfl hw (Nat.le_of_ble_eq_true rfl) (Nat.le_of_ble_eq_true rfl) dX5_forward_27
