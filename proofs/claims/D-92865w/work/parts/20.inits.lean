/-! CONSTRUCTORS (printed by gen_init.py) -/
set_option maxRecDepth 100000
section SG
variable {Γ : sv_G} {cc : ByteArray} {nL : Nat} {own : String} {ret : Option FieldType} {R : Room} {X : va_W} {k n pc : Nat} {lv : List (Nat × Value)} {st : List Value}
theorem sv_Zx (hC : sv_C Γ cc nL own ret R) {C nm d : String} {v : Value} (hZ : va_Z C nm d v (fun q => (sg_s0 Γ).heap.size ≤ q) (sg_s0 Γ) (sg_s0 Γ).heap) : va_Z C nm d v (sg_A Γ) (sg_s Γ) (sg_s Γ).heap :=
  ((hZ.moved hC.E.1.alike).kept (fun a h1 _ => hC.E.2.2 a h1)).narrow (fun q h => hC.lo q h)
theorem sv_gets (hC : sv_C Γ cc nL own ret R) {C nm d ref : String} {v : Value} {index : Nat} (hZ : va_Z C nm d v (fun q => (sg_s0 Γ).heap.size ≤ q) (sg_s0 Γ) (sg_s0 Γ).heap) (hq : Cond.fieldLink own index ref nm d ∈ lw_all) (hr : ref = C) (dd : decode cc pc = .ok (.getstatic index, 3)) (kk : sv_V Γ X k n (pc + 3) lv (v :: st)) : sv_V Γ X k n pc lv st := fun H locs ls hP hD hS hl =>
  va_gets hC.x hC.b (sv_Zx hC hZ) hS hC.ow (hC.ts _ hq) (fun x h => by rw [hr]; exact h) dd (kk H locs ls hP hD hS hl)
end SG
abbrev rm_mi_Coat : Room := { frames := 1, cells := 0, slots := 0, locals := 20 }
set_option maxHeartbeats 4000000 in
theorem mi_Coat {l : Launch} {s0 : State} {D : va_G} {dA : Nat → ClassId} (hF : sv_F s0 D dA)  (b : Nat) (x1 : Int32) (x2 : Int32) (v0 v1 : Value) : sv_M l s0 D yX1_init cX1_init 3 none rm_mi_Coat [.ref b, .int x1, .int x2] [(b, .inr (2, [v0, v1]))] (sv_pX (fun W => W = [(b, .inr (2, [.int x1, .int x2]))])) :=
  sv_met hF (by decide) (Nat.le_of_ble_eq_true rfl) (fun Γ hC hQ hmn e1 e2 e3 e4 => by
    subst e1 e2 e3 e4
    refine sv_aload_n hC dX1_init_0 0 rfl rfl ?_
    refine sv_oinit hC q107 (by decide) (Nat.le_of_ble_eq_true rfl) (Nat.le_of_ble_eq_true rfl) dX1_init_1 ?_
    refine sv_aload_n hC dX1_init_4 0 rfl rfl ?_
    refine sv_iload_n hC dX1_init_5 1 rfl rfl ?_
    refine sv_putF hC hmn in_X1 tyX1 tyX1_ok nmX1 0 rfl rfl 0 (by decide) q108 rfl rfl rfl rfl rfl (Nat.le_of_ble_eq_true rfl) (Xq := [(b, .inr (2, [.int x1, v1]))]) rfl dX1_init_6 ?_
    refine sv_aload_n hC dX1_init_9 0 rfl rfl ?_
    refine sv_iload_n hC dX1_init_10 2 rfl rfl ?_
    refine sv_putF hC hmn in_X1 tyX1 tyX1_ok nmX1 0 rfl rfl 1 (by decide) q113 rfl rfl rfl rfl rfl (Nat.le_of_ble_eq_true rfl) (Xq := [(b, .inr (2, [.int x1, .int x2]))]) rfl dX1_init_11 ?_
    exact sv_vret hC hQ dX1_init_14 ⟨rfl, rfl⟩)

abbrev rm_mi_CoatB : Room := { frames := 1, cells := 0, slots := 0, locals := 20 }
set_option maxHeartbeats 4000000 in
theorem mi_CoatB {l : Launch} {s0 : State} {D : va_G} {dA : Nat → ClassId} (hF : sv_F s0 D dA)  (b : Nat) (x1 : Int32) (x2 : Int32) (v0 v1 : Value) : sv_M l s0 D yX1_init cX1_init 3 none rm_mi_CoatB [.ref b, .int x1, .int x2] [(b, .inr (3, [v0, v1]))] (sv_pX (fun W => W = [(b, .inr (3, [.int x1, .int x2]))])) :=
  sv_met hF (by decide) (Nat.le_of_ble_eq_true rfl) (fun Γ hC hQ hmn e1 e2 e3 e4 => by
    subst e1 e2 e3 e4
    refine sv_aload_n hC dX1_init_0 0 rfl rfl ?_
    refine sv_oinit hC q107 (by decide) (Nat.le_of_ble_eq_true rfl) (Nat.le_of_ble_eq_true rfl) dX1_init_1 ?_
    refine sv_aload_n hC dX1_init_4 0 rfl rfl ?_
    refine sv_iload_n hC dX1_init_5 1 rfl rfl ?_
    refine sv_putF hC hmn in_X2 tyX2 tyX2_ok nmX2 0 rfl rfl 0 (by decide) q108 rfl rfl rfl rfl rfl (Nat.le_of_ble_eq_true rfl) (Xq := [(b, .inr (3, [.int x1, v1]))]) rfl dX1_init_6 ?_
    refine sv_aload_n hC dX1_init_9 0 rfl rfl ?_
    refine sv_iload_n hC dX1_init_10 2 rfl rfl ?_
    refine sv_putF hC hmn in_X2 tyX2 tyX2_ok nmX2 0 rfl rfl 1 (by decide) q113 rfl rfl rfl rfl rfl (Nat.le_of_ble_eq_true rfl) (Xq := [(b, .inr (3, [.int x1, .int x2]))]) rfl dX1_init_11 ?_
    exact sv_vret hC hQ dX1_init_14 ⟨rfl, rfl⟩)

abbrev rm_mi_Boy : Room := { frames := 2, cells := 0, slots := 0, locals := 42 }
set_option maxHeartbeats 4000000 in
theorem mi_Boy {l : Launch} {s0 : State} {D : va_G} {dA : Nat → ClassId} (hF : sv_F s0 D dA)  (b : Nat)  (v0 v1 : Value) : sv_M l s0 D yX2_init cX2_init 1 none rm_mi_Boy [.ref b] [(b, .inr (3, [v0, v1]))] (sv_pX (fun W => W = [(b, .inr (3, [.int 999, .int 0]))])) :=
  sv_met hF (by decide) (Nat.le_of_ble_eq_true rfl) (fun Γ hC hQ hmn e1 e2 e3 e4 => by
    subst e1 e2 e3 e4
    refine sv_aload_n hC dX2_init_0 0 rfl rfl ?_
    refine sv_sipush hC (v := 999) dX2_init_1 (by decide) ?_
    refine sv_iconst hC (v := 0) dX2_init_4 (by decide) ?_
    refine sv_callI (nn := 2) (Xr := []) hC [0] [] rfl rfl rfl (by decide) (by decide) (mi_CoatB hC.F  b 999 0 v0 v1) (lw_meth q106) q53 q104 q105 rfl (by decide +kernel) ⟨by decide, by decide⟩ rfl rfl (Nat.le_of_ble_eq_true rfl) ⟨Nat.le_of_ble_eq_true rfl, Nat.le_of_ble_eq_true rfl⟩ dX2_init_5 (fun v W hp => ?_)
    obtain ⟨rfl, rfl⟩ := hp
    refine sv_wd (X' := [(b, .inr (3, [.int 999, .int 0]))]) rfl ?_
    exact sv_vret hC hQ dX2_init_8 ⟨rfl, rfl⟩)

abbrev rm_mi_Field : Room := { frames := 1, cells := 0, slots := 0, locals := 20 }
set_option maxHeartbeats 4000000 in
theorem mi_Field {l : Launch} {s0 : State} {D : va_G} {dA : Nat → ClassId} (hF : sv_F s0 D dA)  (b : Nat) (x1 : Int32) (x2 : Int32) (x3 : Int32) (v0 v1 v2 : Value) : sv_M l s0 D yX9_init cX9_init 4 none rm_mi_Field [.ref b, .int x1, .int x2, .int x3] [(b, .inr (13, [v0, v1, v2]))] (sv_pX (fun W => W = [(b, .inr (13, [.int x1, .int x2, .int x3]))])) :=
  sv_met hF (by decide) (Nat.le_of_ble_eq_true rfl) (fun Γ hC hQ hmn e1 e2 e3 e4 => by
    subst e1 e2 e3 e4
    refine sv_aload_n hC dX9_init_0 0 rfl rfl ?_
    refine sv_oinit hC q691 (by decide) (Nat.le_of_ble_eq_true rfl) (Nat.le_of_ble_eq_true rfl) dX9_init_1 ?_
    refine sv_aload_n hC dX9_init_4 0 rfl rfl ?_
    refine sv_iload_n hC dX9_init_5 1 rfl rfl ?_
    refine sv_putF hC hmn in_X9 tyX9 tyX9_ok nmX9 0 rfl rfl 0 (by decide) q692 rfl rfl rfl rfl rfl (Nat.le_of_ble_eq_true rfl) (Xq := [(b, .inr (13, [.int x1, v1, v2]))]) rfl dX9_init_6 ?_
    refine sv_aload_n hC dX9_init_9 0 rfl rfl ?_
    refine sv_iload_n hC dX9_init_10 2 rfl rfl ?_
    refine sv_putF hC hmn in_X9 tyX9 tyX9_ok nmX9 0 rfl rfl 1 (by decide) q695 rfl rfl rfl rfl rfl (Nat.le_of_ble_eq_true rfl) (Xq := [(b, .inr (13, [.int x1, .int x2, v2]))]) rfl dX9_init_11 ?_
    refine sv_aload_n hC dX9_init_14 0 rfl rfl ?_
    refine sv_iload_n hC dX9_init_15 3 rfl rfl ?_
    refine sv_putF hC hmn in_X9 tyX9 tyX9_ok nmX9 0 rfl rfl 2 (by decide) q698 rfl rfl rfl rfl rfl (Nat.le_of_ble_eq_true rfl) (Xq := [(b, .inr (13, [.int x1, .int x2, .int x3]))]) rfl dX9_init_16 ?_
    exact sv_vret hC hQ dX9_init_19 ⟨rfl, rfl⟩)

abbrev rm_mi_Row : Room := { frames := 1, cells := 0, slots := 0, locals := 20 }
set_option maxHeartbeats 4000000 in
theorem mi_Row {l : Launch} {s0 : State} {D : va_G} {dA : Nat → ClassId} (hF : sv_F s0 D dA)  (b : Nat) (x1 : Int32) (x2 : Int32) (x3 : Int32) (v0 v1 v2 : Value) : sv_M l s0 D yX10_init cX10_init 4 none rm_mi_Row [.ref b, .int x1, .int x2, .int x3] [(b, .inr (14, [v0, v1, v2]))] (sv_pX (fun W => W = [(b, .inr (14, [.int x1, .int x2, .int x3]))])) :=
  sv_met hF (by decide) (Nat.le_of_ble_eq_true rfl) (fun Γ hC hQ hmn e1 e2 e3 e4 => by
    subst e1 e2 e3 e4
    refine sv_aload_n hC dX10_init_0 0 rfl rfl ?_
    refine sv_oinit hC q959 (by decide) (Nat.le_of_ble_eq_true rfl) (Nat.le_of_ble_eq_true rfl) dX10_init_1 ?_
    refine sv_aload_n hC dX10_init_4 0 rfl rfl ?_
    refine sv_iload_n hC dX10_init_5 1 rfl rfl ?_
    refine sv_putF hC hmn in_X10 tyX10 tyX10_ok nmX10 0 rfl rfl 0 (by decide) q960 rfl rfl rfl rfl rfl (Nat.le_of_ble_eq_true rfl) (Xq := [(b, .inr (14, [.int x1, v1, v2]))]) rfl dX10_init_6 ?_
    refine sv_aload_n hC dX10_init_9 0 rfl rfl ?_
    refine sv_iload_n hC dX10_init_10 2 rfl rfl ?_
    refine sv_putF hC hmn in_X10 tyX10 tyX10_ok nmX10 0 rfl rfl 1 (by decide) q962 rfl rfl rfl rfl rfl (Nat.le_of_ble_eq_true rfl) (Xq := [(b, .inr (14, [.int x1, .int x2, v2]))]) rfl dX10_init_11 ?_
    refine sv_aload_n hC dX10_init_14 0 rfl rfl ?_
    refine sv_iload_n hC dX10_init_15 3 rfl rfl ?_
    refine sv_putF hC hmn in_X10 tyX10 tyX10_ok nmX10 0 rfl rfl 2 (by decide) q964 rfl rfl rfl rfl rfl (Nat.le_of_ble_eq_true rfl) (Xq := [(b, .inr (14, [.int x1, .int x2, .int x3]))]) rfl dX10_init_16 ?_
    exact sv_vret hC hQ dX10_init_19 ⟨rfl, rfl⟩)

abbrev rm_mi_AC : Room := { frames := 1, cells := 0, slots := 0, locals := 20 }
set_option maxHeartbeats 4000000 in
theorem mi_AC {l : Launch} {s0 : State} {D : va_G} {dA : Nat → ClassId} (hF : sv_F s0 D dA)  (b : Nat) : sv_M l s0 D yJ1_init cJ1_init 1 none rm_mi_AC [.ref b] [] (sv_pX (fun W => W = [])) :=
  sv_met hF (by decide) (Nat.le_of_ble_eq_true rfl) (fun Γ hC hQ hmn e1 e2 e3 e4 => by
    subst e1 e2 e3 e4
    refine sv_aload_n hC dJ1_init_0 0 rfl rfl ?_
    refine sv_oinit hC q207 (by decide) (Nat.le_of_ble_eq_true rfl) (Nat.le_of_ble_eq_true rfl) dJ1_init_1 ?_
    exact sv_vret hC hQ dJ1_init_4 ⟨rfl, rfl⟩)

abbrev rm_mi_AL : Room := { frames := 2, cells := 0, slots := 0, locals := 40 }
set_option maxHeartbeats 4000000 in
theorem mi_AL {l : Launch} {s0 : State} {D : va_G} {dA : Nat → ClassId} (hF : sv_F s0 D dA)  (b : Nat)  (v0 v1 v2 : Value) : sv_M l s0 D yJ2_init cJ2_init 1 none rm_mi_AL [.ref b] [(b, .inr (7, [v0, v1, v2]))] (sv_pX (fun W => W = [(b, .inr (7, [.int 0, v1, v2]))])) :=
  sv_met hF (by decide) (Nat.le_of_ble_eq_true rfl) (fun Γ hC hQ hmn e1 e2 e3 e4 => by
    subst e1 e2 e3 e4
    refine sv_aload_n hC dJ2_init_0 0 rfl rfl ?_
    refine sv_callI (nn := 0) (Xc := []) (Xr := [(b, .inr (7, [v0, v1, v2]))]) hC [] (List.range 1) rfl rfl rfl (sv_nd _) (fun i _ h => by cases h) (mi_AC hC.F  b) (lw_meth q206) q59 q204 q205 rfl (by decide +kernel) ⟨by decide, by decide⟩ rfl rfl (Nat.le_of_ble_eq_true rfl) ⟨Nat.le_of_ble_eq_true rfl, Nat.le_of_ble_eq_true rfl⟩ dJ2_init_1 (fun v W hp => ?_)
    obtain ⟨rfl, rfl⟩ := hp
    refine sv_wd (X' := [(b, .inr (7, [v0, v1, v2]))]) (List.append_nil _) ?_
    refine sv_aload_n hC dJ2_init_4 0 rfl rfl ?_
    refine sv_iconst hC (v := 0) dJ2_init_5 (by decide) ?_
    refine sv_put hC in_J3 tyJ3 tyJ3_ok nmJ3 0 rfl rfl 0 (by decide) q212 rfl rfl rfl rfl (Nat.le_of_ble_eq_true rfl) (Xq := [(b, .inr (7, [.int 0, v1, v2]))]) rfl dJ2_init_6 ?_
    exact sv_vret hC hQ dJ2_init_9 ⟨rfl, rfl⟩)

abbrev rm_mi_List : Room := { frames := 3, cells := 0, slots := 0, locals := 60 }
set_option maxHeartbeats 4000000 in
theorem mi_List {l : Launch} {s0 : State} {D : va_G} {dA : Nat → ClassId} (hF : sv_F s0 D dA) {ea0 : Nat} (hZ : va_Z "java/util/ArrayList" "DEFAULTCAPACITY_EMPTY_ELEMENTDATA" "[Ljava/lang/Object;" (.ref ea0) (fun q => s0.heap.size ≤ q) s0 s0.heap) (b : Nat) (v0 v1 v2 : Value) : sv_M l s0 D yJ3_init cJ3_init 1 none rm_mi_List [.ref b] [(b, .inr (7, [v0, v1, v2]))] (sv_pX (fun W => W = [(b, .inr (7, [.int 0, .ref ea0, v2]))])) :=
  sv_met hF (by decide) (Nat.le_of_ble_eq_true rfl) (fun Γ hC hQ hmn e1 e2 e3 e4 => by
    subst e1 e2 e3 e4
    refine sv_aload_n hC dJ3_init_0 0 rfl rfl ?_
    refine sv_callI (nn := 0) (Xr := []) hC [0] [] rfl rfl rfl (by decide) (by decide) (mi_AL hC.F  b v0 v1 v2) (lw_meth q203) q60 q201 q202 rfl (by decide +kernel) ⟨by decide, by decide⟩ rfl rfl (Nat.le_of_ble_eq_true rfl) ⟨Nat.le_of_ble_eq_true rfl, Nat.le_of_ble_eq_true rfl⟩ dJ3_init_1 (fun v W hp => ?_)
    obtain ⟨rfl, rfl⟩ := hp
    refine sv_wd (X' := [(b, .inr (7, [.int 0, v1, v2]))]) rfl ?_
    refine sv_aload_n hC dJ3_init_4 0 rfl rfl ?_
    refine sv_gets hC hZ q208 rfl dJ3_init_5 ?_
    refine sv_put hC in_J3 tyJ3 tyJ3_ok nmJ3 0 rfl rfl 1 (by decide) q210 rfl rfl rfl rfl (Nat.le_of_ble_eq_true rfl) (Xq := [(b, .inr (7, [.int 0, .ref ea0, v2]))]) rfl dJ3_init_8 ?_
    exact sv_vret hC hQ dJ3_init_11 ⟨rfl, rfl⟩)

abbrev rm_mi_World : Room := { frames := 1, cells := 8, slots := 32, locals := 20 }
set_option maxHeartbeats 4000000 in
theorem mi_World {l : Launch} {s0 : State} {D : va_G} {dA : Nat → ClassId} (hF : sv_F s0 D dA)  (b xo : Nat) (v0 v1 v2 v3 v4 v5 v6 : Value) : sv_M l s0 D yX4_init cX4_init 2 none rm_mi_World [.ref b, .ref xo] [(b, .inr (5, [v0, v1, v2, v3, v4, v5, v6]))] (sv_pX (fun W => ∃ q1 q2 q3 q4 : Nat, W = (((([(b, .inr (5, [.ref q1, .ref q2, .ref q3, .ref q4, .int (-1), v5, .ref xo]))] ++ [(q1, .inl (dA 0, 4, .inl (fun _ => 0)))]) ++ ((q2, .inl (dA 8, 4, xq (fun j => some (q2 + 1 + j)))) :: fm (q2 + 1) 4 (dA 0) 4 (fun _ _ => 0))) ++ [(q3, .inl (dA 0, 4, .inl (fun _ => 0)))]) ++ [(q4, .inl (dA 0, 4, .inl (fun _ => 0)))]))) :=
  sv_met hF (by decide) (Nat.le_of_ble_eq_true rfl) (fun Γ hC hQ hmn e1 e2 e3 e4 => by
    subst e1 e2 e3 e4
    refine sv_aload_n hC dX4_init_0 0 rfl rfl ?_
    refine sv_aload_n hC dX4_init_1 1 rfl rfl ?_
    refine sv_putF hC hmn in_X4 tyX4 tyX4_ok nmX4 0 rfl rfl 6 (by decide) q165 rfl rfl rfl rfl rfl (Nat.le_of_ble_eq_true rfl) (Xq := [(b, .inr (5, [v0, v1, v2, v3, v4, v5, .ref xo]))]) rfl dX4_init_2 ?_
    refine sv_aload_n hC dX4_init_5 0 rfl rfl ?_
    refine sv_oinit hC q152 (by decide) (Nat.le_of_ble_eq_true rfl) (Nat.le_of_ble_eq_true rfl) dX4_init_6 ?_
    refine sv_aload_n hC dX4_init_9 0 rfl rfl ?_
    refine sv_iconst hC (v := 4) dX4_init_10 (by decide) ?_
    refine sv_newa (atype := .int) hC rfl q181 0 rfl rfl (by decide) rfl (Nat.le_of_ble_eq_true rfl) (Nat.le_of_ble_eq_true rfl) (Nat.le_of_ble_eq_true rfl) dX4_init_11 (fun q1 => ?_)
    refine sv_putF hC hmn in_X4 tyX4 tyX4_ok nmX4 0 rfl rfl 0 (by decide) q155 rfl rfl rfl rfl rfl (Nat.le_of_ble_eq_true rfl) (Xq := ([(b, .inr (5, [.ref q1, v1, v2, v3, v4, v5, .ref xo]))] ++ [(q1, .inl (sg_dA Γ 0, 4, .inl (fun _ => 0)))])) rfl dX4_init_13 ?_
    refine sv_aload_n hC dX4_init_16 0 rfl rfl ?_
    refine sv_iconst hC (v := 4) dX4_init_17 (by decide) ?_
    refine sv_iconst hC (v := 4) dX4_init_18 (by decide) ?_
    refine sv_multi (ty := .int) hC q153 q154 q181 8 0 rfl rfl rfl (fun C h => by cases h) rfl (by decide) (by decide) (N := 4) (M := 4) rfl rfl (Nat.le_of_ble_eq_true rfl) (Nat.le_of_ble_eq_true rfl) (Nat.le_of_ble_eq_true rfl) rfl rfl (Nat.le_of_ble_eq_true rfl) (Nat.le_of_ble_eq_true rfl) dX4_init_19 (fun q2 => ?_)
    refine sv_putF hC hmn in_X4 tyX4 tyX4_ok nmX4 0 rfl rfl 1 (by decide) q157 rfl rfl rfl rfl rfl (Nat.le_of_ble_eq_true rfl) (Xq := (([(b, .inr (5, [.ref q1, .ref q2, v2, v3, v4, v5, .ref xo]))] ++ [(q1, .inl (sg_dA Γ 0, 4, .inl (fun _ => 0)))]) ++ ((q2, .inl (sg_dA Γ 8, 4, xq (fun j => some (q2 + 1 + j)))) :: fm (q2 + 1) 4 (sg_dA Γ 0) 4 (fun _ _ => 0)))) rfl dX4_init_23 ?_
    refine sv_aload_n hC dX4_init_26 0 rfl rfl ?_
    refine sv_iconst hC (v := 4) dX4_init_27 (by decide) ?_
    refine sv_newa (atype := .int) hC rfl q181 0 rfl rfl (by decide) rfl (Nat.le_of_ble_eq_true rfl) (Nat.le_of_ble_eq_true rfl) (Nat.le_of_ble_eq_true rfl) dX4_init_28 (fun q3 => ?_)
    refine sv_putF hC hmn in_X4 tyX4 tyX4_ok nmX4 0 rfl rfl 2 (by decide) q159 rfl rfl rfl rfl rfl (Nat.le_of_ble_eq_true rfl) (Xq := ((([(b, .inr (5, [.ref q1, .ref q2, .ref q3, v3, v4, v5, .ref xo]))] ++ [(q1, .inl (sg_dA Γ 0, 4, .inl (fun _ => 0)))]) ++ ((q2, .inl (sg_dA Γ 8, 4, xq (fun j => some (q2 + 1 + j)))) :: fm (q2 + 1) 4 (sg_dA Γ 0) 4 (fun _ _ => 0))) ++ [(q3, .inl (sg_dA Γ 0, 4, .inl (fun _ => 0)))])) rfl dX4_init_30 ?_
    refine sv_aload_n hC dX4_init_33 0 rfl rfl ?_
    refine sv_iconst hC (v := 4) dX4_init_34 (by decide) ?_
    refine sv_newa (atype := .int) hC rfl q181 0 rfl rfl (by decide) rfl (Nat.le_of_ble_eq_true rfl) (Nat.le_of_ble_eq_true rfl) (Nat.le_of_ble_eq_true rfl) dX4_init_35 (fun q4 => ?_)
    refine sv_putF hC hmn in_X4 tyX4 tyX4_ok nmX4 0 rfl rfl 3 (by decide) q161 rfl rfl rfl rfl rfl (Nat.le_of_ble_eq_true rfl) (Xq := (((([(b, .inr (5, [.ref q1, .ref q2, .ref q3, .ref q4, v4, v5, .ref xo]))] ++ [(q1, .inl (sg_dA Γ 0, 4, .inl (fun _ => 0)))]) ++ ((q2, .inl (sg_dA Γ 8, 4, xq (fun j => some (q2 + 1 + j)))) :: fm (q2 + 1) 4 (sg_dA Γ 0) 4 (fun _ _ => 0))) ++ [(q3, .inl (sg_dA Γ 0, 4, .inl (fun _ => 0)))]) ++ [(q4, .inl (sg_dA Γ 0, 4, .inl (fun _ => 0)))])) rfl dX4_init_37 ?_
    refine sv_aload_n hC dX4_init_40 0 rfl rfl ?_
    refine sv_iconst hC (v := (-1)) dX4_init_41 (by decide) ?_
    refine sv_put hC in_X4 tyX4 tyX4_ok nmX4 0 rfl rfl 4 (by decide) q163 rfl rfl rfl rfl (Nat.le_of_ble_eq_true rfl) (Xq := (((([(b, .inr (5, [.ref q1, .ref q2, .ref q3, .ref q4, .int (-1), v5, .ref xo]))] ++ [(q1, .inl (sg_dA Γ 0, 4, .inl (fun _ => 0)))]) ++ ((q2, .inl (sg_dA Γ 8, 4, xq (fun j => some (q2 + 1 + j)))) :: fm (q2 + 1) 4 (sg_dA Γ 0) 4 (fun _ _ => 0))) ++ [(q3, .inl (sg_dA Γ 0, 4, .inl (fun _ => 0)))]) ++ [(q4, .inl (sg_dA Γ 0, 4, .inl (fun _ => 0)))])) rfl dX4_init_42 ?_
    exact sv_vret hC hQ dX4_init_45 ⟨rfl, q1, q2, q3, q4, rfl⟩)

abbrev rm_mi_Places : Room := { frames := 1, cells := 1, slots := 4, locals := 20 }
set_option maxHeartbeats 4000000 in
theorem mi_Places {l : Launch} {s0 : State} {D : va_G} {dA : Nat → ClassId} (hF : sv_F s0 D dA)  (b xo : Nat) (v0 v1 : Value) : sv_M l s0 D yX5_init cX5_init 2 none rm_mi_Places [.ref b, .ref xo] [(b, .inr (6, [v0, v1]))] (sv_pX (fun W => ∃ q1 : Nat, W = ([(b, .inr (6, [.ref q1, .ref xo]))] ++ [(q1, .inl (dA 1, 4, .inl (fun _ => 0)))]))) :=
  sv_met hF (by decide) (Nat.le_of_ble_eq_true rfl) (fun Γ hC hQ hmn e1 e2 e3 e4 => by
    subst e1 e2 e3 e4
    refine sv_aload_n hC dX5_init_0 0 rfl rfl ?_
    refine sv_aload_n hC dX5_init_1 1 rfl rfl ?_
    refine sv_putF hC hmn in_X5 tyX5 tyX5_ok nmX5 0 rfl rfl 1 (by decide) q190 rfl rfl rfl rfl rfl (Nat.le_of_ble_eq_true rfl) (Xq := [(b, .inr (6, [v0, .ref xo]))]) rfl dX5_init_2 ?_
    refine sv_aload_n hC dX5_init_5 0 rfl rfl ?_
    refine sv_oinit hC q187 (by decide) (Nat.le_of_ble_eq_true rfl) (Nat.le_of_ble_eq_true rfl) dX5_init_6 ?_
    refine sv_aload_n hC dX5_init_9 0 rfl rfl ?_
    refine sv_iconst hC (v := 4) dX5_init_10 (by decide) ?_
    refine sv_newa (atype := .byte) hC rfl q145 1 rfl rfl (by decide) rfl (Nat.le_of_ble_eq_true rfl) (Nat.le_of_ble_eq_true rfl) (Nat.le_of_ble_eq_true rfl) dX5_init_11 (fun q1 => ?_)
    refine sv_putF hC hmn in_X5 tyX5 tyX5_ok nmX5 0 rfl rfl 0 (by decide) q188 rfl rfl rfl rfl rfl (Nat.le_of_ble_eq_true rfl) (Xq := ([(b, .inr (6, [.ref q1, .ref xo]))] ++ [(q1, .inl (sg_dA Γ 1, 4, .inl (fun _ => 0)))])) rfl dX5_init_13 ?_
    exact sv_vret hC hQ dX5_init_16 ⟨rfl, q1, rfl⟩)

theorem mi_fill4 (f : Nat → Int32) : ∃ g : Nat → Int32, jd_J0_fill 4 (-1) f = some g ∧ ∀ j : Nat, j < 4 → g j = -1 := by
  refine ⟨upd (upd (upd (upd f 0 (-1)) 1 (-1)) 2 (-1)) 3 (-1), rfl, fun j hj => ?_⟩
  rcases (show j = 0 ∨ j = 1 ∨ j = 2 ∨ j = 3 by omega) with rfl | rfl | rfl | rfl <;> rfl
def mi_PlanW (dA : Nat → ClassId) (b q1 q2 : Nat) (F : Nat → Nat → Int32) : va_W := (b, .inr (4, [.ref q1, .ref q2])) :: (q1, .inl (dA 6, 21, xq (fun j => some (q1 + 1 + j)))) :: (fm (q1 + 1) 21 (dA 1) 4 F ++ ((q2, .inl (dA 7, 21, xq (fun j => some (q2 + 1 + j)))) :: fm (q2 + 1) 21 (dA 2) 4 (fun _ _ => 0)))
abbrev rm_mi_Plan : Room := { frames := 1, cells := 44, slots := 210, locals := 23 }
set_option maxHeartbeats 4000000 in
theorem mi_PlanL {Γ : sv_G} (hC : sv_C Γ cX3_init 5 RX3 none rm_mi_Plan) (b q1 q2 : Nat) (hQ : sv_RQ Γ (sv_pX (fun W => ∃ (q1 q2 : Nat) (F : Nat → Nat → Int32), (∀ d, d < 21 → ∀ j, j < 4 → F d j = -1) ∧ W = mi_PlanW (sg_dA Γ) b q1 q2 F)) 44 210) :
    ∀ (n i : Nat) (F : Nat → Nat → Int32) (lv : List (Nat × Value)), i ≤ 21 → 21 - i < n → (∀ d, d < i → ∀ j, j < 4 → F d j = -1) → lv_pick lv [0, 1, 2, 3] = [(3, .int (nI i)), (2, .int 21), (1, .ref q1), (0, .ref b)] → sv_V Γ (mi_PlanW (sg_dA Γ) b q1 q2 F) 44 210 36 lv [] := by
  intro n
  induction n with
  | zero => intro i F lv h1 h2; omega
  | succ n ih =>
    intro i F lv h1 h2 hF hlv
    refine sv_loc [0, 1, 2, 3] (lvq := [(3, .int (nI i)), (2, .int 21), (1, .ref q1), (0, .ref b)]) hlv ?_
    refine sv_iload_n hC dX3_init_36 0 rfl rfl ?_
    refine sv_iload_n hC dX3_init_37 1 rfl rfl ?_
    refine sv_icmp_ge hC (tgt := 58) dX3_init_38 (by decide) (fun c => ?_) (fun c => ?_)
    · have hi : i = 21 := by
        have := (nI_leI (a := 21) (b := i) (by decide) (by omega)).mp c
        omega
      subst hi
      exact sv_vret hC hQ dX3_init_58 ⟨rfl, q1, q2, F, hF, rfl⟩
    · have hi : i < 21 := by
        rcases Nat.lt_or_ge i 21 with h | h
        · exact h
        · exact absurd ((nI_leI (a := 21) (b := i) (by decide) (by omega)).mpr h) c
      have hix : sv_ix (nI i) 21 = some i := by
        unfold sv_ix
        rw [if_neg (nI_pos (by omega)), nI_clamp (by omega), if_pos hi]
      refine sv_aload_n hC dX3_init_41 2 rfl rfl ?_
      refine sv_iload_n hC dX3_init_42 0 rfl rfl ?_
      refine sv_aldr hC 1 6 (b := q1 + 1 + i) rfl rfl rfl hix rfl dX3_init_43 ?_
      refine sv_astore hC dX3_init_44 (by decide) (lvq := [(4, .ref (q1 + 1 + i)), (3, .int (nI i)), (2, .int 21), (1, .ref q1), (0, .ref b)]) rfl ?_
      refine sv_aload hC dX3_init_46 0 rfl ?_
      refine sv_iconst hC (v := (-1)) dX3_init_48 (by decide) ?_
      obtain ⟨g, hg, hg2⟩ := mi_fill4 (F i)
      refine sv_cS (nn := 2) (c' := (q1 + 1 + i, .inl (sg_dA Γ 1, 4, .inl g))) hC (i + 2) (c := (q1 + 1 + i, .inl (sg_dA Γ 1, 4, .inl (F i)))) ?_ rfl (met_jd_J0_fill hC.F (q1 + 1 + i) 4 (-1) (F i) hg) (lw_S q131 q132 q56 q133) (X' := mi_PlanW (sg_dA Γ) b q1 q2 (fun d => if d = i then g else F d)) ?_ (by decide +kernel) ⟨by decide, by decide⟩ ⟨rfl, rfl⟩ rfl rfl (Nat.le_of_ble_eq_true rfl) ⟨Nat.le_refl _, Nat.le_refl _⟩ dX3_init_49 ?_
      · show (fm (q1 + 1) 21 (sg_dA Γ 1) 4 F ++ _)[i]? = _
        rw [List.getElem?_append_left (by rw [fm_len]; exact hi), fm_at hi]
      · show _ :: _ :: (fm (q1 + 1) 21 (sg_dA Γ 1) 4 F ++ _).set i _ = _ :: _ :: (fm (q1 + 1) 21 (sg_dA Γ 1) 4 (fun d => if d = i then g else F d) ++ _)
        rw [List.set_append_left _ _ (by rw [fm_len]; exact hi), fm_set hi]
      · refine sv_iinc hC (v := nI (i + 1)) dX3_init_52 1 rfl (nI_1 i) (by decide) (lvq := [(3, .int (nI (i + 1))), (4, .ref (q1 + 1 + i)), (2, .int 21), (1, .ref q1), (0, .ref b)]) rfl ?_
        refine sv_goto hC (tgt := 36) dX3_init_55 (by decide) ?_
        refine sv_loc [0, 2, 3, 4] (lvq := [(3, .int (nI (i + 1))), (2, .int 21), (1, .ref q1), (0, .ref b)]) rfl ?_
        refine ih (i + 1) _ _ (by omega) (by omega) (fun d hd j hj => ?_) rfl
        by_cases e : d = i
        · subst e; show (if d = d then g else F d) j = -1; rw [if_pos rfl]; exact hg2 j hj
        · show (if d = i then g else F d) j = -1; rw [if_neg e]; exact hF d (by omega) j hj
set_option maxHeartbeats 4000000 in
theorem mi_Plan {l : Launch} {s0 : State} {D : va_G} {dA : Nat → ClassId} (hF : sv_F s0 D dA) (b : Nat) (v0 v1 : Value) : sv_M l s0 D yX3_init cX3_init 5 none rm_mi_Plan [.ref b] [(b, .inr (4, [v0, v1]))] (sv_pX (fun W => ∃ (q1 q2 : Nat) (F : Nat → Nat → Int32), (∀ d, d < 21 → ∀ j, j < 4 → F d j = -1) ∧ W = mi_PlanW dA b q1 q2 F)) :=
  sv_met hF (by decide) (Nat.le_of_ble_eq_true rfl) (fun Γ hC hQ hmn e1 e2 e3 e4 => by
    subst e1 e2 e3 e4
    refine sv_aload_n hC dX3_init_0 0 rfl rfl ?_
    refine sv_oinit hC q126 (by decide) (Nat.le_of_ble_eq_true rfl) (Nat.le_of_ble_eq_true rfl) dX3_init_1 ?_
    refine sv_aload_n hC dX3_init_4 0 rfl rfl ?_
    refine sv_bipush hC (v := 21) dX3_init_5 (by decide) ?_
    refine sv_iconst hC (v := 4) dX3_init_7 (by decide) ?_
    refine sv_multi (ty := .byte) hC q127 q128 q145 6 1 rfl rfl rfl (fun C h => by cases h) rfl (by decide) (by decide) (N := 21) (M := 4) rfl rfl (Nat.le_of_ble_eq_true rfl) (Nat.le_of_ble_eq_true rfl) (Nat.le_of_ble_eq_true rfl) rfl rfl (Nat.le_of_ble_eq_true rfl) (Nat.le_of_ble_eq_true rfl) dX3_init_8 (fun q1 => ?_)
    refine sv_putF hC hmn in_X3 tyX3 tyX3_ok nmX3 0 rfl rfl 0 (by decide) q134 rfl rfl rfl rfl rfl (Nat.le_of_ble_eq_true rfl) (Xq := ([(b, .inr (4, [.ref q1, v1]))] ++ ((q1, .inl (sg_dA Γ 6, 21, xq (fun j => some (q1 + 1 + j)))) :: fm (q1 + 1) 21 (sg_dA Γ 1) 4 (fun _ _ => 0)))) rfl dX3_init_12 ?_
    refine sv_aload_n hC dX3_init_15 0 rfl rfl ?_
    refine sv_bipush hC (v := 21) dX3_init_16 (by decide) ?_
    refine sv_iconst hC (v := 4) dX3_init_18 (by decide) ?_
    refine sv_multi (ty := .boolean) hC q129 q130 q146 7 2 rfl rfl rfl (fun C h => by cases h) rfl (by decide) (by decide) (N := 21) (M := 4) rfl rfl (Nat.le_of_ble_eq_true rfl) (Nat.le_of_ble_eq_true rfl) (Nat.le_of_ble_eq_true rfl) rfl rfl (Nat.le_of_ble_eq_true rfl) (Nat.le_of_ble_eq_true rfl) dX3_init_19 (fun q2 => ?_)
    refine sv_putF hC hmn in_X3 tyX3 tyX3_ok nmX3 0 rfl rfl 1 (by decide) q137 rfl rfl rfl rfl rfl (Nat.le_of_ble_eq_true rfl) (Xq := (([(b, .inr (4, [.ref q1, .ref q2]))] ++ ((q1, .inl (sg_dA Γ 6, 21, xq (fun j => some (q1 + 1 + j)))) :: fm (q1 + 1) 21 (sg_dA Γ 1) 4 (fun _ _ => 0))) ++ ((q2, .inl (sg_dA Γ 7, 21, xq (fun j => some (q2 + 1 + j)))) :: fm (q2 + 1) 21 (sg_dA Γ 2) 4 (fun _ _ => 0)))) rfl dX3_init_23 ?_
    refine sv_wd (X' := mi_PlanW (sg_dA Γ) b q1 q2 (fun _ _ => 0)) rfl ?_
    refine sv_aload_n hC dX3_init_26 0 rfl rfl ?_
    refine sv_get hC in_X3 0 rfl rfl 0 (by decide) q134 rfl (v := .ref q1) rfl dX3_init_27 ?_
    refine sv_astore_n hC dX3_init_30 rfl (by decide) (lvq := [(1, .ref q1), (0, .ref b)]) rfl ?_
    refine sv_aload_n hC dX3_init_31 0 rfl rfl ?_
    refine sv_alen hC 1 6 rfl rfl (v := 21) rfl dX3_init_32 ?_
    refine sv_istore_n hC dX3_init_33 rfl (by decide) (lvq := [(2, .int 21), (1, .ref q1), (0, .ref b)]) rfl ?_
    refine sv_iconst hC (v := 0) dX3_init_34 (by decide) ?_
    refine sv_istore_n hC dX3_init_35 rfl (by decide) (lvq := [(3, .int (nI 0)), (2, .int 21), (1, .ref q1), (0, .ref b)]) rfl ?_
    exact mi_PlanL hC b q1 q2 hQ 22 0 (fun _ _ => 0) _ (by omega) (by omega) (fun d hd => by omega) rfl)
