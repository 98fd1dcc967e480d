/-! CONSTRUCTORS of the model and of the system (printed by gen_init.py) -/
set_option maxRecDepth 100000
theorem va_P.perm {D : va_G} {X X' : va_W} {H : Heap} (h : X.Perm X') (hP : va_P D sv_cl X H) : va_P D sv_cl X' H := fun i q hi => by
  obtain ⟨j, hj⟩ := List.getElem?_of_mem (h.mem_iff.mpr (List.mem_of_getElem? hi))
  exact hP j q hj
theorem va_D.nodup {A : Nat → Prop} {X : va_W} (h : va_D A X) : (X.map (fun q => q.1)).Nodup := by
  refine List.pairwise_iff_getElem.mpr (fun i j hi hj hij he => ?_)
  have hi2 : i < X.length := by simpa using hi
  have hj2 : j < X.length := by simpa using hj
  have := h.1 i j X[i] X[j] (List.getElem?_eq_getElem hi2) (List.getElem?_eq_getElem hj2) (by simpa using he)
  omega
theorem va_D.perm {A : Nat → Prop} {X X' : va_W} (h : X.Perm X') (hD : va_D A X) : va_D A X' := by
  have hn : (X'.map (fun q => q.1)).Nodup := (h.map (fun q => q.1)).nodup_iff.mp hD.nodup
  refine ⟨fun i j p q hi hj hpq => ?_, fun i q hi => ?_⟩
  · have h1 : (X'.map (fun q => q.1))[i]? = some p.1 := by rw [List.getElem?_map, hi]; rfl
    have h2 : (X'.map (fun q => q.1))[j]? = some p.1 := by rw [List.getElem?_map, hj, hpq]; rfl
    obtain ⟨l1, e1⟩ := List.getElem?_eq_some_iff.mp h1
    obtain ⟨l2, e2⟩ := List.getElem?_eq_some_iff.mp h2
    have hp := List.pairwise_iff_getElem.mp hn
    rcases Nat.lt_trichotomy i j with h3 | h3 | h3
    · exact absurd (e1.trans e2.symm) (hp i j l1 l2 h3)
    · exact h3
    · exact absurd (e2.trans e1.symm) (hp j i l2 l1 h3)
  · obtain ⟨j, hj⟩ := List.getElem?_of_mem (h.mem_iff.mpr (List.mem_of_getElem? hi))
    exact hD.2 j q hj
section SH
variable {Γ : sv_G} {cc : ByteArray} {nL : Nat} {own : String} {ret : Option FieldType} {R : Room} {X : va_W} {k n pc : Nat} {lv : List (Nat × Value)} {st : List Value}
theorem sv_perm {X' : va_W} (h : X.Perm X') (kk : sv_V Γ X' k n pc lv st) : sv_V Γ X k n pc lv st := fun H locs ls hP hD hS hl => kk H locs ls (hP.perm h) (hD.perm h) hS hl
theorem sv_tl (c : Nat × va_E) (Y : va_W) : (List.range Y.length).map (fun i => (c :: Y)[i + 1]?) = Y.map some := by
  have := sv_all Y
  simpa using this
/-- a constructor's call on the first cell -/
theorem sv_ci (hC : sv_C Γ cc nL own ret R) {c : Nat × va_E} {Y : va_W} {index nn : Nat} {y : MethodName} {bb : ByteArray} {L : Nat} {rm : Room} {b : Nat} {As rest : List Value} {post : Option Value → va_W → Prop}
    (hM : sv_M (sg_l Γ) (sg_s0 Γ) (sg_D Γ) y bb L none rm (.ref b :: As) [c] post) (hG : GoodIn lw_all (ws_ y bb L none)) (hini : Cond.initialized y.cls ∈ lw_all) (hlk : Cond.methodLink own index y ∈ lw_all) (him : Cond.instanceMethod y ∈ lw_all) (hy : y.name = "<init>")
    (hd : y.cls ≠ "java/lang/invoke/MethodHandle" ∧ y.cls ≠ "java/lang/invoke/VarHandle" ∧ (parseMethodDescriptor y.desc).map (fun d => d.parameters.length) = some nn) (hR : rm.frames + 1 ≤ R.frames ∧ 8 + (L + 11) + rm.locals ≤ R.locals) (hn : As.length = nn) {st0 : List Value} (hst : st0 = As.reverse ++ .ref b :: rest) (hW : (rest.map fun v => v.category).sum ≤ 8) (hf : k + rm.cells ≤ R.cells ∧ n + rm.slots ≤ R.slots) (d : decode cc pc = .ok (.invokespecial index, 3))
    (kk : ∀ (v : Option Value) (X' : va_W), post v X' → sv_V Γ (Y ++ X') (k + rm.cells) (n + rm.slots) (pc + 3) lv (v.toList ++ rest)) : sv_V Γ (c :: Y) k n pc lv st0 :=
  sv_callI (Xr := Y) hC [0] ((List.range Y.length).map (fun i => i + 1)) rfl (by rw [List.map_map]; exact sv_tl c Y) rfl (sv_ndR _ (List.Pairwise.map _ (fun a b h => by omega) List.nodup_range)) (fun i hi h => by
    obtain ⟨j, -, rfl⟩ := List.mem_map.mp hi
    simp at h) hM hG hini hlk him hy hd hR hn hst hW hf d kk
theorem sv_ciN (hC : sv_C Γ cc nL own ret R) {c : Nat × va_E} {Y : va_W} {index nn : Nat} {host : String} {y : MethodName} {bb : ByteArray} {L : Nat} {rm : Room} {b : Nat} {As rest : List Value} {post : Option Value → va_W → Prop}
    (hM : sv_M (sg_l Γ) (sg_s0 Γ) (sg_D Γ) y bb L none rm (.ref b :: As) [c] post) (hG : GoodIn lw_all (ws_ y bb L none)) (hini : Cond.initialized y.cls ∈ lw_all) (hlk : Cond.methodLinkNest own index y host ∈ lw_tbl) (him : Cond.instanceMethod y ∈ lw_all) (hy : y.name = "<init>")
    (hd : y.cls ≠ "java/lang/invoke/MethodHandle" ∧ y.cls ≠ "java/lang/invoke/VarHandle" ∧ (parseMethodDescriptor y.desc).map (fun d => d.parameters.length) = some nn) (hR : rm.frames + 1 ≤ R.frames ∧ 8 + (L + 11) + rm.locals ≤ R.locals) (hn : As.length = nn) {st0 : List Value} (hst : st0 = As.reverse ++ .ref b :: rest) (hW : (rest.map fun v => v.category).sum ≤ 8) (hf : k + rm.cells ≤ R.cells ∧ n + rm.slots ≤ R.slots) (d : decode cc pc = .ok (.invokespecial index, 3))
    (kk : ∀ (v : Option Value) (X' : va_W), post v X' → sv_V Γ (Y ++ X') (k + rm.cells) (n + rm.slots) (pc + 3) lv (v.toList ++ rest)) : sv_V Γ (c :: Y) k n pc lv st0 :=
  sv_callIN (Xr := Y) hC [0] ((List.range Y.length).map (fun i => i + 1)) rfl (by rw [List.map_map]; exact sv_tl c Y) rfl (sv_ndR _ (List.Pairwise.map _ (fun a b h => by omega) List.nodup_range)) (fun i hi h => by
    obtain ⟨j, -, rfl⟩ := List.mem_map.mp hi
    simp at h) hM hG hini hlk him hy hd hR hn hst hW hf d kk
theorem sv_newaC (hC : sv_C Γ cc nL own ret R) {c : Nat × va_E} {Y : va_W} {atype : ArrayType} {ty : FieldType} (hty : newarray.typeOf atype = ty) (hq : Cond.arrayClass ty ∈ lw_all) (kd : Nat) (ht : (sv_ty (sg_dA Γ))[kd]? = some (sg_dA Γ kd, ty)) {m : Int32} {N : Nat} (hdv : defaultValue ty = .int 0) (hn : ¬ m < 0) (hN : m.toNatClampNeg = N) (hbytes : N * componentBytes ty ≤ 536870912) (hcells : k + 1 ≤ R.cells) (hslots : n + N ≤ R.slots) (d : decode cc pc = .ok (.newarray atype, 2))
    (kk : ∀ q : Nat, sv_V Γ (c :: (Y ++ [(q, .inl (sg_dA Γ kd, N, .inl (fun _ => 0)))])) (k + 1) (n + N) (pc + 2) lv (.ref q :: st)) : sv_V Γ (c :: Y) k n pc lv (.int m :: st) := sv_newa hC hty hq kd ht hdv hn hN hbytes hcells hslots d kk
theorem sv_anewC (hC : sv_C Γ cc nL own ret R) {c : Nat × va_E} {Y : va_W} {C : String} {index : Nat} (hq : Cond.classLink own index C ∈ lw_all) (hq2 : Cond.arrayOver (.object C) ∈ lw_tbl) (kd : Nat) (ht : (sv_ty (sg_dA Γ))[kd]? = some (sg_dA Γ kd, .object C)) {m : Int32} {N : Nat} (hn : ¬ m < 0) (hN : m.toNatClampNeg = N) (hbytes : N * 4 ≤ 536870912) (hcells : k + 1 ≤ R.cells) (hslots : n + N ≤ R.slots) (d : decode cc pc = .ok (.anewarray index, 3))
    (kk : ∀ q : Nat, sv_V Γ (c :: (Y ++ [(q, .inl (sg_dA Γ kd, N, xq (fun _ => none)))])) (k + 1) (n + N) (pc + 3) lv (.ref q :: st)) : sv_V Γ (c :: Y) k n pc lv (.int m :: st) := sv_anew hC hq hq2 kd ht hn hN hbytes hcells hslots d kk
theorem sv_newC (hC : sv_C Γ cc nL own ret R) {C : String} {T : u_T} {N ci index : Nat} (hin : ∀ w ∈ u_ws C T N, w ∈ lw_all) (ty : Nat → FieldType) (hty : ∀ k, k < N → parseFieldDescriptor (T k).2.2.1 = some (ty k)) (hcl : Cond.classLink own index C ∈ lw_all) (hinst : Cond.instantiable C N ∈ lw_all) (hini : Cond.initialized C ∈ lw_all) (hc : sv_cl[ci]? = some (C, T, N)) {fs : List Value} (hfs : ∀ j, j < N → defaultValue (ty j) = vp_V fs j) (hcells : k + 1 ≤ R.cells) (hslots : n + N ≤ R.slots) (d : decode cc pc = .ok (.new index, 3))
    (kk : ∀ q : Nat, sv_V Γ ((q, .inr (ci, fs)) :: X) (k + 1) (n + N) (pc + 3) lv (.ref q :: st)) : sv_V Γ X k n pc lv st := sv_new hC hin ty hty hcl hinst hini hc hfs hcells hslots d (fun q => sv_perm (List.perm_append_singleton _ _) (kk q))
theorem sv_putC (hC : sv_C Γ cc nL own ret R) {Y : va_W} {ref C : String} {T : u_T} {N ci index a : Nat} (hin : ∀ w ∈ u_ws C T N, w ∈ lw_all) (ty0 : Nat → FieldType) (hty : ∀ k, k < N → parseFieldDescriptor (T k).2.2.1 = some (ty0 k)) (hnm : ∀ a, a < N → ∀ b, b < N → a ≠ b → (T a).2.1 ≠ (T b).2.1) {fs fs' : List Value} (hc : sv_cl[ci]? = some (C, T, N)) (f : Nat) (hk : f < N) (hq : Cond.fieldLink own index ref (T f).2.1 (T f).2.2.1 ∈ lw_all) (hr : ref = (T f).1) (hfin : (T f).2.2.2 = false) {v : Value} (hn : narrow (ty0 f) v = v) (hfit : fits (ty0 f) v = true) (hl0 : f < fs.length) (hX : fs.set f v = fs') (d : decode cc pc = .ok (.putfield index, 3))
    (kk : sv_V Γ ((a, .inr (ci, fs')) :: Y) k n (pc + 3) lv st) : sv_V Γ ((a, .inr (ci, fs)) :: Y) k n pc lv (v :: .ref a :: st) := sv_put hC hin ty0 hty hnm 0 rfl hc f hk hq hr hfin hn hfit hl0 (by rw [hX]; rfl) d kk
theorem sv_putFC (hC : sv_C Γ cc nL own ret R) (hmn : (sg_meth Γ).name = "<init>") {Y : va_W} {ref C : String} {T : u_T} {N ci index a : Nat} (hin : ∀ w ∈ u_ws C T N, w ∈ lw_all) (ty0 : Nat → FieldType) (hty : ∀ k, k < N → parseFieldDescriptor (T k).2.2.1 = some (ty0 k)) (hnm : ∀ a, a < N → ∀ b, b < N → a ≠ b → (T a).2.1 ≠ (T b).2.1) {fs fs' : List Value} (hc : sv_cl[ci]? = some (C, T, N)) (f : Nat) (hk : f < N) (hq : Cond.fieldLink own index ref (T f).2.1 (T f).2.2.1 ∈ lw_all) (hr : ref = (T f).1) (hdc : (T f).1 = own) (hfin : (T f).2.2.2 = true) {v : Value} (hn : narrow (ty0 f) v = v) (hfit : fits (ty0 f) v = true) (hl0 : f < fs.length) (hX : fs.set f v = fs') (d : decode cc pc = .ok (.putfield index, 3))
    (kk : sv_V Γ ((a, .inr (ci, fs')) :: Y) k n (pc + 3) lv st) : sv_V Γ ((a, .inr (ci, fs)) :: Y) k n pc lv (v :: .ref a :: st) := sv_putF hC hmn hin ty0 hty hnm 0 rfl hc f hk hq hr hdc hfin hn hfit hl0 (by rw [hX]; rfl) d kk
end SH
def mi_ModelW (dA : Nat → ClassId) (b : Nat) (q1 : Nat) (q2 : Nat) (q3 : Nat) (q4 : Nat) (q5 : Nat) (q6 : Nat) (q7 : Nat) (q8 : Nat) (q9 : Nat) (q10 : Nat) (q11 : Nat) (q12 : Nat) (q13 : Nat) (q14 : Nat) (q15 : Nat) (q16 : Nat) (q17 : Nat) (q18 : Nat) (q19 : Nat) : va_W := ((b, .inr (0, [.ref q1, .int 0, .ref q2, .int 0, .int 0, .ref q3, .ref q4, .ref q5, .int 0, .ref q6, .int 0, .ref q7, .ref q8, .int 0, .int 0, .int 1, .int 21, .ref q9, .ref q10, .ref q11, .int 0, .int 0, .int 0, .int 0, .int 15, .int (-1), .int (-1), .int 0, .int 0, .int (-1), .int 0, .int 268435456, .ref q12, .ref q13, .ref q14, .ref q15, .ref q16, .ref q17, .ref q18, .ref q19])) :: ((((((((((((((((((([] ++ [(q1, .inl (dA 0, 200, .inl (fun _ => 0)))]) ++ [(q2, .inl (dA 0, 50, .inl (fun _ => 0)))]) ++ [(q3, .inl (dA 0, 4, .inl (fun _ => 0)))]) ++ [(q4, .inl (dA 0, 4, .inl (fun _ => 0)))]) ++ [(q5, .inl (dA 0, 4, .inl (fun _ => 0)))]) ++ [(q6, .inl (dA 0, 4, .inl (fun _ => 0)))]) ++ [(q7, .inl (dA 0, 4, .inl (fun _ => 0)))]) ++ [(q8, .inl (dA 0, 4, .inl (fun _ => 0)))]) ++ [(q9, .inl (dA 0, 84, .inl (fun _ => 0)))]) ++ [(q10, .inl (dA 0, 21, .inl (fun _ => 0)))]) ++ [(q11, .inl (dA 0, 36, .inl (fun _ => 0)))]) ++ [(q12, .inl (dA 0, 8, .inl (fun _ => 0)))]) ++ [(q13, .inl (dA 0, 4, .inl (fun _ => 0)))]) ++ [(q14, .inl (dA 0, 16, .inl (fun _ => 0)))]) ++ [(q15, .inl (dA 0, 4, .inl (fun _ => 0)))]) ++ [(q16, .inl (dA 0, 4, .inl (fun _ => 0)))]) ++ [(q17, .inl (dA 0, 8, .inl (fun _ => 0)))]) ++ [(q18, .inl (dA 0, 32, .inl (fun _ => 0)))]) ++ [(q19, .inl (dA 0, 16, .inl (fun _ => 0)))]))
abbrev rm_mi_Model : Room := { frames := 1, cells := 19, slots := 507, locals := 20 }
set_option maxHeartbeats 4000000 in
theorem mi_Model {l : Launch} {s0 : State} {D : va_G} {dA : Nat → ClassId} (hF : sv_F s0 D dA)  (b : Nat) : sv_M l s0 D yX6_init cX6_init 1 none rm_mi_Model [.ref b] [(b, .inr (0, [.null, .int 0, .null, .int 0, .int 0, .null, .null, .null, .int 0, .null, .int 0, .null, .null, .int 0, .int 0, .int 0, .int 0, .null, .null, .null, .int 0, .int 0, .int 0, .int 0, .int 0, .int 0, .int 0, .int 0, .int 0, .int 0, .int 0, .int 0, .null, .null, .null, .null, .null, .null, .null, .null]))] (sv_pX (fun W => ∃ (q1 : Nat) (q2 : Nat) (q3 : Nat) (q4 : Nat) (q5 : Nat) (q6 : Nat) (q7 : Nat) (q8 : Nat) (q9 : Nat) (q10 : Nat) (q11 : Nat) (q12 : Nat) (q13 : Nat) (q14 : Nat) (q15 : Nat) (q16 : Nat) (q17 : Nat) (q18 : Nat) (q19 : Nat), W = mi_ModelW dA b q1 q2 q3 q4 q5 q6 q7 q8 q9 q10 q11 q12 q13 q14 q15 q16 q17 q18 q19)) :=
  sv_met hF (by decide) (Nat.le_of_ble_eq_true rfl) (fun Γ hC hQ hmn e1 e2 e3 e4 => by
    subst e1 e2 e3 e4
    refine sv_aload_n hC dX6_init_0 0 rfl rfl ?_
    refine sv_oinit hC q1054 (by decide) (Nat.le_of_ble_eq_true rfl) (Nat.le_of_ble_eq_true rfl) dX6_init_1 ?_
    refine sv_aload_n hC dX6_init_4 0 rfl rfl ?_
    refine sv_sipush hC (v := 200) dX6_init_5 (by decide) ?_
    refine sv_newaC (atype := .int) hC rfl q181 0 rfl rfl (by decide) rfl (Nat.le_of_ble_eq_true rfl) (Nat.le_of_ble_eq_true rfl) (Nat.le_of_ble_eq_true rfl) dX6_init_8 (fun q1 => ?_)
    refine sv_putFC hC hmn in_X6 tyX6 tyX6_ok nmX6 (fs' := [.ref q1, .int 0, .null, .int 0, .int 0, .null, .null, .null, .int 0, .null, .int 0, .null, .null, .int 0, .int 0, .int 0, .int 0, .null, .null, .null, .int 0, .int 0, .int 0, .int 0, .int 0, .int 0, .int 0, .int 0, .int 0, .int 0, .int 0, .int 0, .null, .null, .null, .null, .null, .null, .null, .null]) rfl 0 (by decide) q1056 rfl rfl rfl rfl rfl (Nat.le_of_ble_eq_true rfl) rfl dX6_init_10 ?_
    refine sv_aload_n hC dX6_init_13 0 rfl rfl ?_
    refine sv_bipush hC (v := 50) dX6_init_14 (by decide) ?_
    refine sv_newaC (atype := .int) hC rfl q181 0 rfl rfl (by decide) rfl (Nat.le_of_ble_eq_true rfl) (Nat.le_of_ble_eq_true rfl) (Nat.le_of_ble_eq_true rfl) dX6_init_16 (fun q2 => ?_)
    refine sv_putFC hC hmn in_X6 tyX6 tyX6_ok nmX6 (fs' := [.ref q1, .int 0, .ref q2, .int 0, .int 0, .null, .null, .null, .int 0, .null, .int 0, .null, .null, .int 0, .int 0, .int 0, .int 0, .null, .null, .null, .int 0, .int 0, .int 0, .int 0, .int 0, .int 0, .int 0, .int 0, .int 0, .int 0, .int 0, .int 0, .null, .null, .null, .null, .null, .null, .null, .null]) rfl 2 (by decide) q1058 rfl rfl rfl rfl rfl (Nat.le_of_ble_eq_true rfl) rfl dX6_init_18 ?_
    refine sv_aload_n hC dX6_init_21 0 rfl rfl ?_
    refine sv_iconst hC (v := 4) dX6_init_22 (by decide) ?_
    refine sv_newaC (atype := .int) hC rfl q181 0 rfl rfl (by decide) rfl (Nat.le_of_ble_eq_true rfl) (Nat.le_of_ble_eq_true rfl) (Nat.le_of_ble_eq_true rfl) dX6_init_23 (fun q3 => ?_)
    refine sv_putFC hC hmn in_X6 tyX6 tyX6_ok nmX6 (fs' := [.ref q1, .int 0, .ref q2, .int 0, .int 0, .ref q3, .null, .null, .int 0, .null, .int 0, .null, .null, .int 0, .int 0, .int 0, .int 0, .null, .null, .null, .int 0, .int 0, .int 0, .int 0, .int 0, .int 0, .int 0, .int 0, .int 0, .int 0, .int 0, .int 0, .null, .null, .null, .null, .null, .null, .null, .null]) rfl 5 (by decide) q1061 rfl rfl rfl rfl rfl (Nat.le_of_ble_eq_true rfl) rfl dX6_init_25 ?_
    refine sv_aload_n hC dX6_init_28 0 rfl rfl ?_
    refine sv_iconst hC (v := 4) dX6_init_29 (by decide) ?_
    refine sv_newaC (atype := .int) hC rfl q181 0 rfl rfl (by decide) rfl (Nat.le_of_ble_eq_true rfl) (Nat.le_of_ble_eq_true rfl) (Nat.le_of_ble_eq_true rfl) dX6_init_30 (fun q4 => ?_)
    refine sv_putFC hC hmn in_X6 tyX6 tyX6_ok nmX6 (fs' := [.ref q1, .int 0, .ref q2, .int 0, .int 0, .ref q3, .ref q4, .null, .int 0, .null, .int 0, .null, .null, .int 0, .int 0, .int 0, .int 0, .null, .null, .null, .int 0, .int 0, .int 0, .int 0, .int 0, .int 0, .int 0, .int 0, .int 0, .int 0, .int 0, .int 0, .null, .null, .null, .null, .null, .null, .null, .null]) rfl 6 (by decide) q1062 rfl rfl rfl rfl rfl (Nat.le_of_ble_eq_true rfl) rfl dX6_init_32 ?_
    refine sv_aload_n hC dX6_init_35 0 rfl rfl ?_
    refine sv_iconst hC (v := 4) dX6_init_36 (by decide) ?_
    refine sv_newaC (atype := .int) hC rfl q181 0 rfl rfl (by decide) rfl (Nat.le_of_ble_eq_true rfl) (Nat.le_of_ble_eq_true rfl) (Nat.le_of_ble_eq_true rfl) dX6_init_37 (fun q5 => ?_)
    refine sv_putFC hC hmn in_X6 tyX6 tyX6_ok nmX6 (fs' := [.ref q1, .int 0, .ref q2, .int 0, .int 0, .ref q3, .ref q4, .ref q5, .int 0, .null, .int 0, .null, .null, .int 0, .int 0, .int 0, .int 0, .null, .null, .null, .int 0, .int 0, .int 0, .int 0, .int 0, .int 0, .int 0, .int 0, .int 0, .int 0, .int 0, .int 0, .null, .null, .null, .null, .null, .null, .null, .null]) rfl 7 (by decide) q1063 rfl rfl rfl rfl rfl (Nat.le_of_ble_eq_true rfl) rfl dX6_init_39 ?_
    refine sv_aload_n hC dX6_init_42 0 rfl rfl ?_
    refine sv_iconst hC (v := 4) dX6_init_43 (by decide) ?_
    refine sv_newaC (atype := .int) hC rfl q181 0 rfl rfl (by decide) rfl (Nat.le_of_ble_eq_true rfl) (Nat.le_of_ble_eq_true rfl) (Nat.le_of_ble_eq_true rfl) dX6_init_44 (fun q6 => ?_)
    refine sv_putFC hC hmn in_X6 tyX6 tyX6_ok nmX6 (fs' := [.ref q1, .int 0, .ref q2, .int 0, .int 0, .ref q3, .ref q4, .ref q5, .int 0, .ref q6, .int 0, .null, .null, .int 0, .int 0, .int 0, .int 0, .null, .null, .null, .int 0, .int 0, .int 0, .int 0, .int 0, .int 0, .int 0, .int 0, .int 0, .int 0, .int 0, .int 0, .null, .null, .null, .null, .null, .null, .null, .null]) rfl 9 (by decide) q1065 rfl rfl rfl rfl rfl (Nat.le_of_ble_eq_true rfl) rfl dX6_init_46 ?_
    refine sv_aload_n hC dX6_init_49 0 rfl rfl ?_
    refine sv_iconst hC (v := 4) dX6_init_50 (by decide) ?_
    refine sv_newaC (atype := .int) hC rfl q181 0 rfl rfl (by decide) rfl (Nat.le_of_ble_eq_true rfl) (Nat.le_of_ble_eq_true rfl) (Nat.le_of_ble_eq_true rfl) dX6_init_51 (fun q7 => ?_)
    refine sv_putFC hC hmn in_X6 tyX6 tyX6_ok nmX6 (fs' := [.ref q1, .int 0, .ref q2, .int 0, .int 0, .ref q3, .ref q4, .ref q5, .int 0, .ref q6, .int 0, .ref q7, .null, .int 0, .int 0, .int 0, .int 0, .null, .null, .null, .int 0, .int 0, .int 0, .int 0, .int 0, .int 0, .int 0, .int 0, .int 0, .int 0, .int 0, .int 0, .null, .null, .null, .null, .null, .null, .null, .null]) rfl 11 (by decide) q1067 rfl rfl rfl rfl rfl (Nat.le_of_ble_eq_true rfl) rfl dX6_init_53 ?_
    refine sv_aload_n hC dX6_init_56 0 rfl rfl ?_
    refine sv_iconst hC (v := 4) dX6_init_57 (by decide) ?_
    refine sv_newaC (atype := .int) hC rfl q181 0 rfl rfl (by decide) rfl (Nat.le_of_ble_eq_true rfl) (Nat.le_of_ble_eq_true rfl) (Nat.le_of_ble_eq_true rfl) dX6_init_58 (fun q8 => ?_)
    refine sv_putFC hC hmn in_X6 tyX6 tyX6_ok nmX6 (fs' := [.ref q1, .int 0, .ref q2, .int 0, .int 0, .ref q3, .ref q4, .ref q5, .int 0, .ref q6, .int 0, .ref q7, .ref q8, .int 0, .int 0, .int 0, .int 0, .null, .null, .null, .int 0, .int 0, .int 0, .int 0, .int 0, .int 0, .int 0, .int 0, .int 0, .int 0, .int 0, .int 0, .null, .null, .null, .null, .null, .null, .null, .null]) rfl 12 (by decide) q1068 rfl rfl rfl rfl rfl (Nat.le_of_ble_eq_true rfl) rfl dX6_init_60 ?_
    refine sv_aload_n hC dX6_init_63 0 rfl rfl ?_
    refine sv_iconst hC (v := 1) dX6_init_64 (by decide) ?_
    refine sv_putC hC in_X6 tyX6 tyX6_ok nmX6 (fs' := [.ref q1, .int 0, .ref q2, .int 0, .int 0, .ref q3, .ref q4, .ref q5, .int 0, .ref q6, .int 0, .ref q7, .ref q8, .int 0, .int 0, .int 1, .int 0, .null, .null, .null, .int 0, .int 0, .int 0, .int 0, .int 0, .int 0, .int 0, .int 0, .int 0, .int 0, .int 0, .int 0, .null, .null, .null, .null, .null, .null, .null, .null]) rfl 15 (by decide) q1071 rfl rfl rfl rfl (Nat.le_of_ble_eq_true rfl) rfl dX6_init_65 ?_
    refine sv_aload_n hC dX6_init_68 0 rfl rfl ?_
    refine sv_bipush hC (v := 21) dX6_init_69 (by decide) ?_
    refine sv_putC hC in_X6 tyX6 tyX6_ok nmX6 (fs' := [.ref q1, .int 0, .ref q2, .int 0, .int 0, .ref q3, .ref q4, .ref q5, .int 0, .ref q6, .int 0, .ref q7, .ref q8, .int 0, .int 0, .int 1, .int 21, .null, .null, .null, .int 0, .int 0, .int 0, .int 0, .int 0, .int 0, .int 0, .int 0, .int 0, .int 0, .int 0, .int 0, .null, .null, .null, .null, .null, .null, .null, .null]) rfl 16 (by decide) q1072 rfl rfl rfl rfl (Nat.le_of_ble_eq_true rfl) rfl dX6_init_71 ?_
    refine sv_aload_n hC dX6_init_74 0 rfl rfl ?_
    refine sv_bipush hC (v := 84) dX6_init_75 (by decide) ?_
    refine sv_newaC (atype := .int) hC rfl q181 0 rfl rfl (by decide) rfl (Nat.le_of_ble_eq_true rfl) (Nat.le_of_ble_eq_true rfl) (Nat.le_of_ble_eq_true rfl) dX6_init_77 (fun q9 => ?_)
    refine sv_putFC hC hmn in_X6 tyX6 tyX6_ok nmX6 (fs' := [.ref q1, .int 0, .ref q2, .int 0, .int 0, .ref q3, .ref q4, .ref q5, .int 0, .ref q6, .int 0, .ref q7, .ref q8, .int 0, .int 0, .int 1, .int 21, .ref q9, .null, .null, .int 0, .int 0, .int 0, .int 0, .int 0, .int 0, .int 0, .int 0, .int 0, .int 0, .int 0, .int 0, .null, .null, .null, .null, .null, .null, .null, .null]) rfl 17 (by decide) q1073 rfl rfl rfl rfl rfl (Nat.le_of_ble_eq_true rfl) rfl dX6_init_79 ?_
    refine sv_aload_n hC dX6_init_82 0 rfl rfl ?_
    refine sv_bipush hC (v := 21) dX6_init_83 (by decide) ?_
    refine sv_newaC (atype := .int) hC rfl q181 0 rfl rfl (by decide) rfl (Nat.le_of_ble_eq_true rfl) (Nat.le_of_ble_eq_true rfl) (Nat.le_of_ble_eq_true rfl) dX6_init_85 (fun q10 => ?_)
    refine sv_putFC hC hmn in_X6 tyX6 tyX6_ok nmX6 (fs' := [.ref q1, .int 0, .ref q2, .int 0, .int 0, .ref q3, .ref q4, .ref q5, .int 0, .ref q6, .int 0, .ref q7, .ref q8, .int 0, .int 0, .int 1, .int 21, .ref q9, .ref q10, .null, .int 0, .int 0, .int 0, .int 0, .int 0, .int 0, .int 0, .int 0, .int 0, .int 0, .int 0, .int 0, .null, .null, .null, .null, .null, .null, .null, .null]) rfl 18 (by decide) q1074 rfl rfl rfl rfl rfl (Nat.le_of_ble_eq_true rfl) rfl dX6_init_87 ?_
    refine sv_aload_n hC dX6_init_90 0 rfl rfl ?_
    refine sv_bipush hC (v := 36) dX6_init_91 (by decide) ?_
    refine sv_newaC (atype := .int) hC rfl q181 0 rfl rfl (by decide) rfl (Nat.le_of_ble_eq_true rfl) (Nat.le_of_ble_eq_true rfl) (Nat.le_of_ble_eq_true rfl) dX6_init_93 (fun q11 => ?_)
    refine sv_putFC hC hmn in_X6 tyX6 tyX6_ok nmX6 (fs' := [.ref q1, .int 0, .ref q2, .int 0, .int 0, .ref q3, .ref q4, .ref q5, .int 0, .ref q6, .int 0, .ref q7, .ref q8, .int 0, .int 0, .int 1, .int 21, .ref q9, .ref q10, .ref q11, .int 0, .int 0, .int 0, .int 0, .int 0, .int 0, .int 0, .int 0, .int 0, .int 0, .int 0, .int 0, .null, .null, .null, .null, .null, .null, .null, .null]) rfl 19 (by decide) q1075 rfl rfl rfl rfl rfl (Nat.le_of_ble_eq_true rfl) rfl dX6_init_95 ?_
    refine sv_aload_n hC dX6_init_98 0 rfl rfl ?_
    refine sv_bipush hC (v := 15) dX6_init_99 (by decide) ?_
    refine sv_putC hC in_X6 tyX6 tyX6_ok nmX6 (fs' := [.ref q1, .int 0, .ref q2, .int 0, .int 0, .ref q3, .ref q4, .ref q5, .int 0, .ref q6, .int 0, .ref q7, .ref q8, .int 0, .int 0, .int 1, .int 21, .ref q9, .ref q10, .ref q11, .int 0, .int 0, .int 0, .int 0, .int 15, .int 0, .int 0, .int 0, .int 0, .int 0, .int 0, .int 0, .null, .null, .null, .null, .null, .null, .null, .null]) rfl 24 (by decide) q1080 rfl rfl rfl rfl (Nat.le_of_ble_eq_true rfl) rfl dX6_init_101 ?_
    refine sv_aload_n hC dX6_init_104 0 rfl rfl ?_
    refine sv_iconst hC (v := (-1)) dX6_init_105 (by decide) ?_
    refine sv_putC hC in_X6 tyX6 tyX6_ok nmX6 (fs' := [.ref q1, .int 0, .ref q2, .int 0, .int 0, .ref q3, .ref q4, .ref q5, .int 0, .ref q6, .int 0, .ref q7, .ref q8, .int 0, .int 0, .int 1, .int 21, .ref q9, .ref q10, .ref q11, .int 0, .int 0, .int 0, .int 0, .int 15, .int (-1), .int 0, .int 0, .int 0, .int 0, .int 0, .int 0, .null, .null, .null, .null, .null, .null, .null, .null]) rfl 25 (by decide) q1081 rfl rfl rfl rfl (Nat.le_of_ble_eq_true rfl) rfl dX6_init_106 ?_
    refine sv_aload_n hC dX6_init_109 0 rfl rfl ?_
    refine sv_iconst hC (v := (-1)) dX6_init_110 (by decide) ?_
    refine sv_putC hC in_X6 tyX6 tyX6_ok nmX6 (fs' := [.ref q1, .int 0, .ref q2, .int 0, .int 0, .ref q3, .ref q4, .ref q5, .int 0, .ref q6, .int 0, .ref q7, .ref q8, .int 0, .int 0, .int 1, .int 21, .ref q9, .ref q10, .ref q11, .int 0, .int 0, .int 0, .int 0, .int 15, .int (-1), .int (-1), .int 0, .int 0, .int 0, .int 0, .int 0, .null, .null, .null, .null, .null, .null, .null, .null]) rfl 26 (by decide) q1082 rfl rfl rfl rfl (Nat.le_of_ble_eq_true rfl) rfl dX6_init_111 ?_
    refine sv_aload_n hC dX6_init_114 0 rfl rfl ?_
    refine sv_iconst hC (v := (-1)) dX6_init_115 (by decide) ?_
    refine sv_putC hC in_X6 tyX6 tyX6_ok nmX6 (fs' := [.ref q1, .int 0, .ref q2, .int 0, .int 0, .ref q3, .ref q4, .ref q5, .int 0, .ref q6, .int 0, .ref q7, .ref q8, .int 0, .int 0, .int 1, .int 21, .ref q9, .ref q10, .ref q11, .int 0, .int 0, .int 0, .int 0, .int 15, .int (-1), .int (-1), .int 0, .int 0, .int (-1), .int 0, .int 0, .null, .null, .null, .null, .null, .null, .null, .null]) rfl 29 (by decide) q1085 rfl rfl rfl rfl (Nat.le_of_ble_eq_true rfl) rfl dX6_init_116 ?_
    refine sv_aload_n hC dX6_init_119 0 rfl rfl ?_
    refine sv_ldc hC dX6_init_120 q1055 ?_
    refine sv_putC hC in_X6 tyX6 tyX6_ok nmX6 (fs' := [.ref q1, .int 0, .ref q2, .int 0, .int 0, .ref q3, .ref q4, .ref q5, .int 0, .ref q6, .int 0, .ref q7, .ref q8, .int 0, .int 0, .int 1, .int 21, .ref q9, .ref q10, .ref q11, .int 0, .int 0, .int 0, .int 0, .int 15, .int (-1), .int (-1), .int 0, .int 0, .int (-1), .int 0, .int 268435456, .null, .null, .null, .null, .null, .null, .null, .null]) rfl 31 (by decide) q1087 rfl rfl rfl rfl (Nat.le_of_ble_eq_true rfl) rfl dX6_init_122 ?_
    refine sv_aload_n hC dX6_init_125 0 rfl rfl ?_
    refine sv_bipush hC (v := 8) dX6_init_126 (by decide) ?_
    refine sv_newaC (atype := .int) hC rfl q181 0 rfl rfl (by decide) rfl (Nat.le_of_ble_eq_true rfl) (Nat.le_of_ble_eq_true rfl) (Nat.le_of_ble_eq_true rfl) dX6_init_128 (fun q12 => ?_)
    refine sv_putFC hC hmn in_X6 tyX6 tyX6_ok nmX6 (fs' := [.ref q1, .int 0, .ref q2, .int 0, .int 0, .ref q3, .ref q4, .ref q5, .int 0, .ref q6, .int 0, .ref q7, .ref q8, .int 0, .int 0, .int 1, .int 21, .ref q9, .ref q10, .ref q11, .int 0, .int 0, .int 0, .int 0, .int 15, .int (-1), .int (-1), .int 0, .int 0, .int (-1), .int 0, .int 268435456, .ref q12, .null, .null, .null, .null, .null, .null, .null]) rfl 32 (by decide) q1088 rfl rfl rfl rfl rfl (Nat.le_of_ble_eq_true rfl) rfl dX6_init_130 ?_
    refine sv_aload_n hC dX6_init_133 0 rfl rfl ?_
    refine sv_iconst hC (v := 4) dX6_init_134 (by decide) ?_
    refine sv_newaC (atype := .int) hC rfl q181 0 rfl rfl (by decide) rfl (Nat.le_of_ble_eq_true rfl) (Nat.le_of_ble_eq_true rfl) (Nat.le_of_ble_eq_true rfl) dX6_init_135 (fun q13 => ?_)
    refine sv_putFC hC hmn in_X6 tyX6 tyX6_ok nmX6 (fs' := [.ref q1, .int 0, .ref q2, .int 0, .int 0, .ref q3, .ref q4, .ref q5, .int 0, .ref q6, .int 0, .ref q7, .ref q8, .int 0, .int 0, .int 1, .int 21, .ref q9, .ref q10, .ref q11, .int 0, .int 0, .int 0, .int 0, .int 15, .int (-1), .int (-1), .int 0, .int 0, .int (-1), .int 0, .int 268435456, .ref q12, .ref q13, .null, .null, .null, .null, .null, .null]) rfl 33 (by decide) q1089 rfl rfl rfl rfl rfl (Nat.le_of_ble_eq_true rfl) rfl dX6_init_137 ?_
    refine sv_aload_n hC dX6_init_140 0 rfl rfl ?_
    refine sv_bipush hC (v := 16) dX6_init_141 (by decide) ?_
    refine sv_newaC (atype := .int) hC rfl q181 0 rfl rfl (by decide) rfl (Nat.le_of_ble_eq_true rfl) (Nat.le_of_ble_eq_true rfl) (Nat.le_of_ble_eq_true rfl) dX6_init_143 (fun q14 => ?_)
    refine sv_putFC hC hmn in_X6 tyX6 tyX6_ok nmX6 (fs' := [.ref q1, .int 0, .ref q2, .int 0, .int 0, .ref q3, .ref q4, .ref q5, .int 0, .ref q6, .int 0, .ref q7, .ref q8, .int 0, .int 0, .int 1, .int 21, .ref q9, .ref q10, .ref q11, .int 0, .int 0, .int 0, .int 0, .int 15, .int (-1), .int (-1), .int 0, .int 0, .int (-1), .int 0, .int 268435456, .ref q12, .ref q13, .ref q14, .null, .null, .null, .null, .null]) rfl 34 (by decide) q1090 rfl rfl rfl rfl rfl (Nat.le_of_ble_eq_true rfl) rfl dX6_init_145 ?_
    refine sv_aload_n hC dX6_init_148 0 rfl rfl ?_
    refine sv_iconst hC (v := 4) dX6_init_149 (by decide) ?_
    refine sv_newaC (atype := .int) hC rfl q181 0 rfl rfl (by decide) rfl (Nat.le_of_ble_eq_true rfl) (Nat.le_of_ble_eq_true rfl) (Nat.le_of_ble_eq_true rfl) dX6_init_150 (fun q15 => ?_)
    refine sv_putFC hC hmn in_X6 tyX6 tyX6_ok nmX6 (fs' := [.ref q1, .int 0, .ref q2, .int 0, .int 0, .ref q3, .ref q4, .ref q5, .int 0, .ref q6, .int 0, .ref q7, .ref q8, .int 0, .int 0, .int 1, .int 21, .ref q9, .ref q10, .ref q11, .int 0, .int 0, .int 0, .int 0, .int 15, .int (-1), .int (-1), .int 0, .int 0, .int (-1), .int 0, .int 268435456, .ref q12, .ref q13, .ref q14, .ref q15, .null, .null, .null, .null]) rfl 35 (by decide) q1091 rfl rfl rfl rfl rfl (Nat.le_of_ble_eq_true rfl) rfl dX6_init_152 ?_
    refine sv_aload_n hC dX6_init_155 0 rfl rfl ?_
    refine sv_iconst hC (v := 4) dX6_init_156 (by decide) ?_
    refine sv_newaC (atype := .int) hC rfl q181 0 rfl rfl (by decide) rfl (Nat.le_of_ble_eq_true rfl) (Nat.le_of_ble_eq_true rfl) (Nat.le_of_ble_eq_true rfl) dX6_init_157 (fun q16 => ?_)
    refine sv_putFC hC hmn in_X6 tyX6 tyX6_ok nmX6 (fs' := [.ref q1, .int 0, .ref q2, .int 0, .int 0, .ref q3, .ref q4, .ref q5, .int 0, .ref q6, .int 0, .ref q7, .ref q8, .int 0, .int 0, .int 1, .int 21, .ref q9, .ref q10, .ref q11, .int 0, .int 0, .int 0, .int 0, .int 15, .int (-1), .int (-1), .int 0, .int 0, .int (-1), .int 0, .int 268435456, .ref q12, .ref q13, .ref q14, .ref q15, .ref q16, .null, .null, .null]) rfl 36 (by decide) q1092 rfl rfl rfl rfl rfl (Nat.le_of_ble_eq_true rfl) rfl dX6_init_159 ?_
    refine sv_aload_n hC dX6_init_162 0 rfl rfl ?_
    refine sv_bipush hC (v := 8) dX6_init_163 (by decide) ?_
    refine sv_newaC (atype := .int) hC rfl q181 0 rfl rfl (by decide) rfl (Nat.le_of_ble_eq_true rfl) (Nat.le_of_ble_eq_true rfl) (Nat.le_of_ble_eq_true rfl) dX6_init_165 (fun q17 => ?_)
    refine sv_putFC hC hmn in_X6 tyX6 tyX6_ok nmX6 (fs' := [.ref q1, .int 0, .ref q2, .int 0, .int 0, .ref q3, .ref q4, .ref q5, .int 0, .ref q6, .int 0, .ref q7, .ref q8, .int 0, .int 0, .int 1, .int 21, .ref q9, .ref q10, .ref q11, .int 0, .int 0, .int 0, .int 0, .int 15, .int (-1), .int (-1), .int 0, .int 0, .int (-1), .int 0, .int 268435456, .ref q12, .ref q13, .ref q14, .ref q15, .ref q16, .ref q17, .null, .null]) rfl 37 (by decide) q1093 rfl rfl rfl rfl rfl (Nat.le_of_ble_eq_true rfl) rfl dX6_init_167 ?_
    refine sv_aload_n hC dX6_init_170 0 rfl rfl ?_
    refine sv_bipush hC (v := 32) dX6_init_171 (by decide) ?_
    refine sv_newaC (atype := .int) hC rfl q181 0 rfl rfl (by decide) rfl (Nat.le_of_ble_eq_true rfl) (Nat.le_of_ble_eq_true rfl) (Nat.le_of_ble_eq_true rfl) dX6_init_173 (fun q18 => ?_)
    refine sv_putFC hC hmn in_X6 tyX6 tyX6_ok nmX6 (fs' := [.ref q1, .int 0, .ref q2, .int 0, .int 0, .ref q3, .ref q4, .ref q5, .int 0, .ref q6, .int 0, .ref q7, .ref q8, .int 0, .int 0, .int 1, .int 21, .ref q9, .ref q10, .ref q11, .int 0, .int 0, .int 0, .int 0, .int 15, .int (-1), .int (-1), .int 0, .int 0, .int (-1), .int 0, .int 268435456, .ref q12, .ref q13, .ref q14, .ref q15, .ref q16, .ref q17, .ref q18, .null]) rfl 38 (by decide) q1094 rfl rfl rfl rfl rfl (Nat.le_of_ble_eq_true rfl) rfl dX6_init_175 ?_
    refine sv_aload_n hC dX6_init_178 0 rfl rfl ?_
    refine sv_bipush hC (v := 16) dX6_init_179 (by decide) ?_
    refine sv_newaC (atype := .int) hC rfl q181 0 rfl rfl (by decide) rfl (Nat.le_of_ble_eq_true rfl) (Nat.le_of_ble_eq_true rfl) (Nat.le_of_ble_eq_true rfl) dX6_init_181 (fun q19 => ?_)
    refine sv_putFC hC hmn in_X6 tyX6 tyX6_ok nmX6 (fs' := [.ref q1, .int 0, .ref q2, .int 0, .int 0, .ref q3, .ref q4, .ref q5, .int 0, .ref q6, .int 0, .ref q7, .ref q8, .int 0, .int 0, .int 1, .int 21, .ref q9, .ref q10, .ref q11, .int 0, .int 0, .int 0, .int 0, .int 15, .int (-1), .int (-1), .int 0, .int 0, .int (-1), .int 0, .int 268435456, .ref q12, .ref q13, .ref q14, .ref q15, .ref q16, .ref q17, .ref q18, .ref q19]) rfl 39 (by decide) q1095 rfl rfl rfl rfl rfl (Nat.le_of_ble_eq_true rfl) rfl dX6_init_183 ?_
    exact sv_vret hC hQ dX6_init_186 ⟨rfl, q1, q2, q3, q4, q5, q6, q7, q8, q9, q10, q11, q12, q13, q14, q15, q16, q17, q18, q19, rfl⟩)

def mi_StrawW (dA : Nat → ClassId) (b : Nat) (ea0 : Nat) (q1 : Nat) (q2 : Nat) (q3 : Nat) (q4 : Nat) (q5 : Nat) (q6 : Nat) (q7 : Nat) (F8 : Nat → Nat → Int32) (q9 : Nat) (q10 : Nat) (q11 : Nat) (F12 : Nat → Nat → Int32) (q13 : Nat) (q14 : Nat) (q15 : Nat) (q16 : Nat) (q17 : Nat) (q18 : Nat) (q19 : Nat) (q20 : Nat) (q21 : Nat) (q22 : Nat) (q23 : Nat) (q24 : Nat) (q25 : Nat) (q26 : Nat) (q27 : Nat) (q28 : Nat) (q29 : Nat) (q30 : Nat) (q31 : Nat) (q32 : Nat) (q33 : Nat) (q34 : Nat) : va_W := ((b, .inr (1, [.ref q1, .ref q2, .ref q3, .ref q4, .int 0, .int 0, .int 1, .int 21, .ref q5, .ref q9, .ref q13, .ref q18, .ref q23, .ref q28, .int 0, .ref q29, .ref q31, .ref q33, .ref q34])) :: (((((((((((((([] ++ [(q1, .inl (dA 3, 4, xq (fun _ => none)))]) ++ [(q2, .inl (dA 4, 4, xq (fun _ => none)))]) ++ [(q3, .inl (dA 5, 4, xq (fun _ => none)))]) ++ [(q4, .inr (3, [.int 999, .int 0]))]) ++ mi_PlanW (dA) q5 q6 q7 F8) ++ mi_PlanW (dA) q9 q10 q11 F12) ++ (((([(q13, .inr (5, [.ref q14, .ref q15, .ref q16, .ref q17, .int (-1), .int 0, .ref b]))] ++ [(q14, .inl (dA 0, 4, .inl (fun _ => 0)))]) ++ ((q15, .inl (dA 8, 4, xq (fun j => some (q15 + 1 + j)))) :: fm (q15 + 1) 4 (dA 0) 4 (fun _ _ => 0))) ++ [(q16, .inl (dA 0, 4, .inl (fun _ => 0)))]) ++ [(q17, .inl (dA 0, 4, .inl (fun _ => 0)))])) ++ (((([(q18, .inr (5, [.ref q19, .ref q20, .ref q21, .ref q22, .int (-1), .int 0, .ref b]))] ++ [(q19, .inl (dA 0, 4, .inl (fun _ => 0)))]) ++ ((q20, .inl (dA 8, 4, xq (fun j => some (q20 + 1 + j)))) :: fm (q20 + 1) 4 (dA 0) 4 (fun _ _ => 0))) ++ [(q21, .inl (dA 0, 4, .inl (fun _ => 0)))]) ++ [(q22, .inl (dA 0, 4, .inl (fun _ => 0)))])) ++ (((([(q23, .inr (5, [.ref q24, .ref q25, .ref q26, .ref q27, .int (-1), .int 0, .ref b]))] ++ [(q24, .inl (dA 0, 4, .inl (fun _ => 0)))]) ++ ((q25, .inl (dA 8, 4, xq (fun j => some (q25 + 1 + j)))) :: fm (q25 + 1) 4 (dA 0) 4 (fun _ _ => 0))) ++ [(q26, .inl (dA 0, 4, .inl (fun _ => 0)))]) ++ [(q27, .inl (dA 0, 4, .inl (fun _ => 0)))])) ++ [(q28, .inl (dA 1, 200, .inl (fun _ => 0)))]) ++ ([(q29, .inr (6, [.ref q30, .ref b]))] ++ [(q30, .inl (dA 1, 4, .inl (fun _ => 0)))])) ++ ([(q31, .inr (6, [.ref q32, .ref b]))] ++ [(q32, .inl (dA 1, 4, .inl (fun _ => 0)))])) ++ [(q33, .inl (dA 1, 4, .inl (fun _ => 0)))]) ++ [(q34, .inr (7, [.int 0, .ref ea0, .int 0]))]))
abbrev rm_mi_Straw : Room := { frames := 4, cells := 128, slots := 774, locals := 80 }
set_option maxHeartbeats 4000000 in
theorem mi_Straw {l : Launch} {s0 : State} {D : va_G} {dA : Nat → ClassId} (hF : sv_F s0 D dA) {ea0 : Nat} (hZ : va_Z "java/util/ArrayList" "DEFAULTCAPACITY_EMPTY_ELEMENTDATA" "[Ljava/lang/Object;" (.ref ea0) (fun q => s0.heap.size ≤ q) s0 s0.heap) (b : Nat) : sv_M l s0 D yX0_init cX0_init 1 none rm_mi_Straw [.ref b] [(b, .inr (1, [.null, .null, .null, .null, .int 0, .int 0, .int 0, .int 0, .null, .null, .null, .null, .null, .null, .int 0, .null, .null, .null, .null]))] (sv_pX (fun W => ∃ (q1 : Nat) (q2 : Nat) (q3 : Nat) (q4 : Nat) (q5 : Nat) (q6 : Nat) (q7 : Nat) (F8 : Nat → Nat → Int32) (_ : ∀ d, d < 21 → ∀ j, j < 4 → F8 d j = -1) (q9 : Nat) (q10 : Nat) (q11 : Nat) (F12 : Nat → Nat → Int32) (_ : ∀ d, d < 21 → ∀ j, j < 4 → F12 d j = -1) (q13 : Nat) (q14 : Nat) (q15 : Nat) (q16 : Nat) (q17 : Nat) (q18 : Nat) (q19 : Nat) (q20 : Nat) (q21 : Nat) (q22 : Nat) (q23 : Nat) (q24 : Nat) (q25 : Nat) (q26 : Nat) (q27 : Nat) (q28 : Nat) (q29 : Nat) (q30 : Nat) (q31 : Nat) (q32 : Nat) (q33 : Nat) (q34 : Nat), W = mi_StrawW dA b ea0 q1 q2 q3 q4 q5 q6 q7 F8 q9 q10 q11 F12 q13 q14 q15 q16 q17 q18 q19 q20 q21 q22 q23 q24 q25 q26 q27 q28 q29 q30 q31 q32 q33 q34)) :=
  sv_met hF (by decide) (Nat.le_of_ble_eq_true rfl) (fun Γ hC hQ hmn e1 e2 e3 e4 => by
    subst e1 e2 e3 e4
    refine sv_aload_n hC dX0_init_0 0 rfl rfl ?_
    refine sv_oinit hC q90 (by decide) (Nat.le_of_ble_eq_true rfl) (Nat.le_of_ble_eq_true rfl) dX0_init_1 ?_
    refine sv_aload_n hC dX0_init_4 0 rfl rfl ?_
    refine sv_iconst hC (v := 4) dX0_init_5 (by decide) ?_
    refine sv_anewC hC q93 q94 3 rfl (by decide) rfl (Nat.le_of_ble_eq_true rfl) (Nat.le_of_ble_eq_true rfl) (Nat.le_of_ble_eq_true rfl) dX0_init_6 (fun q1 => ?_)
    refine sv_putFC hC hmn in_X0 tyX0 tyX0_ok nmX0 (fs' := [.ref q1, .null, .null, .null, .int 0, .int 0, .int 0, .int 0, .null, .null, .null, .null, .null, .null, .int 0, .null, .null, .null, .null]) rfl 0 (by decide) q222 rfl rfl rfl rfl rfl (Nat.le_of_ble_eq_true rfl) rfl dX0_init_9 ?_
    refine sv_aload_n hC dX0_init_12 0 rfl rfl ?_
    refine sv_iconst hC (v := 4) dX0_init_13 (by decide) ?_
    refine sv_anewC hC q95 q96 4 rfl (by decide) rfl (Nat.le_of_ble_eq_true rfl) (Nat.le_of_ble_eq_true rfl) (Nat.le_of_ble_eq_true rfl) dX0_init_14 (fun q2 => ?_)
    refine sv_putFC hC hmn in_X0 tyX0 tyX0_ok nmX0 (fs' := [.ref q1, .ref q2, .null, .null, .int 0, .int 0, .int 0, .int 0, .null, .null, .null, .null, .null, .null, .int 0, .null, .null, .null, .null]) rfl 1 (by decide) q224 rfl rfl rfl rfl rfl (Nat.le_of_ble_eq_true rfl) rfl dX0_init_17 ?_
    refine sv_aload_n hC dX0_init_20 0 rfl rfl ?_
    refine sv_iconst hC (v := 4) dX0_init_21 (by decide) ?_
    refine sv_anewC hC q97 q98 5 rfl (by decide) rfl (Nat.le_of_ble_eq_true rfl) (Nat.le_of_ble_eq_true rfl) (Nat.le_of_ble_eq_true rfl) dX0_init_22 (fun q3 => ?_)
    refine sv_putFC hC hmn in_X0 tyX0 tyX0_ok nmX0 (fs' := [.ref q1, .ref q2, .ref q3, .null, .int 0, .int 0, .int 0, .int 0, .null, .null, .null, .null, .null, .null, .int 0, .null, .null, .null, .null]) rfl 2 (by decide) q227 rfl rfl rfl rfl rfl (Nat.le_of_ble_eq_true rfl) rfl dX0_init_25 ?_
    refine sv_aload_n hC dX0_init_28 0 rfl rfl ?_
    refine sv_newC (ci := 3) (fs := [.int 0, .int 0]) hC in_X2 tyX2 tyX2_ok q99 q100 q54 rfl (fun j hj => by rcases (show j = 0 ∨ j = 1 by omega) with rfl | rfl <;> rfl) (Nat.le_of_ble_eq_true rfl) (Nat.le_of_ble_eq_true rfl) dX0_init_29 (fun q4 => ?_)
    refine sv_dup hC dX0_init_32 rfl ?_
    refine sv_ci (nn := 0) hC (mi_Boy hC.F  q4 (.int 0) (.int 0)) (lw_meth q103) q54 q101 q102 rfl (by decide +kernel) ⟨by decide, by decide⟩ rfl rfl (Nat.le_of_ble_eq_true rfl) ⟨(Nat.le_of_ble_eq_true rfl), (Nat.le_of_ble_eq_true rfl)⟩ dX0_init_33 (fun v W hp => ?_)
    obtain ⟨rfl, rfl⟩ := hp
    refine sv_wd (X' := (b, .inr (1, [.ref q1, .ref q2, .ref q3, .null, .int 0, .int 0, .int 0, .int 0, .null, .null, .null, .null, .null, .null, .int 0, .null, .null, .null, .null])) :: _) (List.cons_append ..) ?_
    refine sv_putFC hC hmn in_X0 tyX0 tyX0_ok nmX0 (fs' := [.ref q1, .ref q2, .ref q3, .ref q4, .int 0, .int 0, .int 0, .int 0, .null, .null, .null, .null, .null, .null, .int 0, .null, .null, .null, .null]) rfl 3 (by decide) q229 rfl rfl rfl rfl rfl (Nat.le_of_ble_eq_true rfl) rfl dX0_init_36 ?_
    refine sv_aload_n hC dX0_init_39 0 rfl rfl ?_
    refine sv_iconst hC (v := 1) dX0_init_40 (by decide) ?_
    refine sv_putC hC in_X0 tyX0 tyX0_ok nmX0 (fs' := [.ref q1, .ref q2, .ref q3, .ref q4, .int 0, .int 0, .int 1, .int 0, .null, .null, .null, .null, .null, .null, .int 0, .null, .null, .null, .null]) rfl 6 (by decide) q233 rfl rfl rfl rfl (Nat.le_of_ble_eq_true rfl) rfl dX0_init_41 ?_
    refine sv_aload_n hC dX0_init_44 0 rfl rfl ?_
    refine sv_bipush hC (v := 21) dX0_init_45 (by decide) ?_
    refine sv_putC hC in_X0 tyX0 tyX0_ok nmX0 (fs' := [.ref q1, .ref q2, .ref q3, .ref q4, .int 0, .int 0, .int 1, .int 21, .null, .null, .null, .null, .null, .null, .int 0, .null, .null, .null, .null]) rfl 7 (by decide) q234 rfl rfl rfl rfl (Nat.le_of_ble_eq_true rfl) rfl dX0_init_47 ?_
    refine sv_aload_n hC dX0_init_50 0 rfl rfl ?_
    refine sv_newC (ci := 4) (fs := [.null, .null]) hC in_X3 tyX3 tyX3_ok q121 q122 q55 rfl (fun j hj => by rcases (show j = 0 ∨ j = 1 by omega) with rfl | rfl <;> rfl) (Nat.le_of_ble_eq_true rfl) (Nat.le_of_ble_eq_true rfl) dX0_init_51 (fun q5 => ?_)
    refine sv_dup hC dX0_init_54 rfl ?_
    refine sv_ci (nn := 0) hC (mi_Plan hC.F  q5 .null .null) (lw_meth q125) q55 q123 q124 rfl (by decide +kernel) ⟨by decide, by decide⟩ rfl rfl (Nat.le_of_ble_eq_true rfl) ⟨(Nat.le_of_ble_eq_true rfl), (Nat.le_of_ble_eq_true rfl)⟩ dX0_init_55 (fun v W hp => ?_)
    obtain ⟨rfl, q6, q7, F8, hF8, rfl⟩ := hp
    refine sv_wd (X' := (b, .inr (1, [.ref q1, .ref q2, .ref q3, .ref q4, .int 0, .int 0, .int 1, .int 21, .null, .null, .null, .null, .null, .null, .int 0, .null, .null, .null, .null])) :: _) (List.cons_append ..) ?_
    refine sv_putFC hC hmn in_X0 tyX0 tyX0_ok nmX0 (fs' := [.ref q1, .ref q2, .ref q3, .ref q4, .int 0, .int 0, .int 1, .int 21, .ref q5, .null, .null, .null, .null, .null, .int 0, .null, .null, .null, .null]) rfl 8 (by decide) q235 rfl rfl rfl rfl rfl (Nat.le_of_ble_eq_true rfl) rfl dX0_init_58 ?_
    refine sv_aload_n hC dX0_init_61 0 rfl rfl ?_
    refine sv_newC (ci := 4) (fs := [.null, .null]) hC in_X3 tyX3 tyX3_ok q121 q122 q55 rfl (fun j hj => by rcases (show j = 0 ∨ j = 1 by omega) with rfl | rfl <;> rfl) (Nat.le_of_ble_eq_true rfl) (Nat.le_of_ble_eq_true rfl) dX0_init_62 (fun q9 => ?_)
    refine sv_dup hC dX0_init_65 rfl ?_
    refine sv_ci (nn := 0) hC (mi_Plan hC.F  q9 .null .null) (lw_meth q125) q55 q123 q124 rfl (by decide +kernel) ⟨by decide, by decide⟩ rfl rfl (Nat.le_of_ble_eq_true rfl) ⟨(Nat.le_of_ble_eq_true rfl), (Nat.le_of_ble_eq_true rfl)⟩ dX0_init_66 (fun v W hp => ?_)
    obtain ⟨rfl, q10, q11, F12, hF12, rfl⟩ := hp
    refine sv_wd (X' := (b, .inr (1, [.ref q1, .ref q2, .ref q3, .ref q4, .int 0, .int 0, .int 1, .int 21, .ref q5, .null, .null, .null, .null, .null, .int 0, .null, .null, .null, .null])) :: _) (List.cons_append ..) ?_
    refine sv_putFC hC hmn in_X0 tyX0 tyX0_ok nmX0 (fs' := [.ref q1, .ref q2, .ref q3, .ref q4, .int 0, .int 0, .int 1, .int 21, .ref q5, .ref q9, .null, .null, .null, .null, .int 0, .null, .null, .null, .null]) rfl 9 (by decide) q236 rfl rfl rfl rfl rfl (Nat.le_of_ble_eq_true rfl) rfl dX0_init_69 ?_
    refine sv_aload_n hC dX0_init_72 0 rfl rfl ?_
    refine sv_newC (ci := 5) (fs := [.null, .null, .null, .null, .int 0, .int 0, .null]) hC in_X4 tyX4 tyX4_ok q147 q148 q57 rfl (fun j hj => by rcases (show j = 0 ∨ j = 1 ∨ j = 2 ∨ j = 3 ∨ j = 4 ∨ j = 5 ∨ j = 6 by omega) with rfl | rfl | rfl | rfl | rfl | rfl | rfl <;> rfl) (Nat.le_of_ble_eq_true rfl) (Nat.le_of_ble_eq_true rfl) dX0_init_73 (fun q13 => ?_)
    refine sv_dup hC dX0_init_76 rfl ?_
    refine sv_aload_n hC dX0_init_77 0 rfl rfl ?_
    refine sv_ciN (nn := 1) hC (mi_World hC.F  q13 b .null .null .null .null (.int 0) (.int 0) .null) (lw_meth q151) q57 q149 q150 rfl (by decide +kernel) ⟨by decide, by decide⟩ rfl rfl (Nat.le_of_ble_eq_true rfl) ⟨(Nat.le_of_ble_eq_true rfl), (Nat.le_of_ble_eq_true rfl)⟩ dX0_init_78 (fun v W hp => ?_)
    obtain ⟨rfl, q14, q15, q16, q17, rfl⟩ := hp
    refine sv_wd (X' := (b, .inr (1, [.ref q1, .ref q2, .ref q3, .ref q4, .int 0, .int 0, .int 1, .int 21, .ref q5, .ref q9, .null, .null, .null, .null, .int 0, .null, .null, .null, .null])) :: _) (List.cons_append ..) ?_
    refine sv_putFC hC hmn in_X0 tyX0 tyX0_ok nmX0 (fs' := [.ref q1, .ref q2, .ref q3, .ref q4, .int 0, .int 0, .int 1, .int 21, .ref q5, .ref q9, .ref q13, .null, .null, .null, .int 0, .null, .null, .null, .null]) rfl 10 (by decide) q237 rfl rfl rfl rfl rfl (Nat.le_of_ble_eq_true rfl) rfl dX0_init_81 ?_
    refine sv_aload_n hC dX0_init_84 0 rfl rfl ?_
    refine sv_newC (ci := 5) (fs := [.null, .null, .null, .null, .int 0, .int 0, .null]) hC in_X4 tyX4 tyX4_ok q147 q148 q57 rfl (fun j hj => by rcases (show j = 0 ∨ j = 1 ∨ j = 2 ∨ j = 3 ∨ j = 4 ∨ j = 5 ∨ j = 6 by omega) with rfl | rfl | rfl | rfl | rfl | rfl | rfl <;> rfl) (Nat.le_of_ble_eq_true rfl) (Nat.le_of_ble_eq_true rfl) dX0_init_85 (fun q18 => ?_)
    refine sv_dup hC dX0_init_88 rfl ?_
    refine sv_aload_n hC dX0_init_89 0 rfl rfl ?_
    refine sv_ciN (nn := 1) hC (mi_World hC.F  q18 b .null .null .null .null (.int 0) (.int 0) .null) (lw_meth q151) q57 q149 q150 rfl (by decide +kernel) ⟨by decide, by decide⟩ rfl rfl (Nat.le_of_ble_eq_true rfl) ⟨(Nat.le_of_ble_eq_true rfl), (Nat.le_of_ble_eq_true rfl)⟩ dX0_init_90 (fun v W hp => ?_)
    obtain ⟨rfl, q19, q20, q21, q22, rfl⟩ := hp
    refine sv_wd (X' := (b, .inr (1, [.ref q1, .ref q2, .ref q3, .ref q4, .int 0, .int 0, .int 1, .int 21, .ref q5, .ref q9, .ref q13, .null, .null, .null, .int 0, .null, .null, .null, .null])) :: _) (List.cons_append ..) ?_
    refine sv_putFC hC hmn in_X0 tyX0 tyX0_ok nmX0 (fs' := [.ref q1, .ref q2, .ref q3, .ref q4, .int 0, .int 0, .int 1, .int 21, .ref q5, .ref q9, .ref q13, .ref q18, .null, .null, .int 0, .null, .null, .null, .null]) rfl 11 (by decide) q238 rfl rfl rfl rfl rfl (Nat.le_of_ble_eq_true rfl) rfl dX0_init_93 ?_
    refine sv_aload_n hC dX0_init_96 0 rfl rfl ?_
    refine sv_newC (ci := 5) (fs := [.null, .null, .null, .null, .int 0, .int 0, .null]) hC in_X4 tyX4 tyX4_ok q147 q148 q57 rfl (fun j hj => by rcases (show j = 0 ∨ j = 1 ∨ j = 2 ∨ j = 3 ∨ j = 4 ∨ j = 5 ∨ j = 6 by omega) with rfl | rfl | rfl | rfl | rfl | rfl | rfl <;> rfl) (Nat.le_of_ble_eq_true rfl) (Nat.le_of_ble_eq_true rfl) dX0_init_97 (fun q23 => ?_)
    refine sv_dup hC dX0_init_100 rfl ?_
    refine sv_aload_n hC dX0_init_101 0 rfl rfl ?_
    refine sv_ciN (nn := 1) hC (mi_World hC.F  q23 b .null .null .null .null (.int 0) (.int 0) .null) (lw_meth q151) q57 q149 q150 rfl (by decide +kernel) ⟨by decide, by decide⟩ rfl rfl (Nat.le_of_ble_eq_true rfl) ⟨(Nat.le_of_ble_eq_true rfl), (Nat.le_of_ble_eq_true rfl)⟩ dX0_init_102 (fun v W hp => ?_)
    obtain ⟨rfl, q24, q25, q26, q27, rfl⟩ := hp
    refine sv_wd (X' := (b, .inr (1, [.ref q1, .ref q2, .ref q3, .ref q4, .int 0, .int 0, .int 1, .int 21, .ref q5, .ref q9, .ref q13, .ref q18, .null, .null, .int 0, .null, .null, .null, .null])) :: _) (List.cons_append ..) ?_
    refine sv_putFC hC hmn in_X0 tyX0 tyX0_ok nmX0 (fs' := [.ref q1, .ref q2, .ref q3, .ref q4, .int 0, .int 0, .int 1, .int 21, .ref q5, .ref q9, .ref q13, .ref q18, .ref q23, .null, .int 0, .null, .null, .null, .null]) rfl 12 (by decide) q239 rfl rfl rfl rfl rfl (Nat.le_of_ble_eq_true rfl) rfl dX0_init_105 ?_
    refine sv_aload_n hC dX0_init_108 0 rfl rfl ?_
    refine sv_sipush hC (v := 200) dX0_init_109 (by decide) ?_
    refine sv_newaC (atype := .byte) hC rfl q145 1 rfl rfl (by decide) rfl (Nat.le_of_ble_eq_true rfl) (Nat.le_of_ble_eq_true rfl) (Nat.le_of_ble_eq_true rfl) dX0_init_112 (fun q28 => ?_)
    refine sv_putFC hC hmn in_X0 tyX0 tyX0_ok nmX0 (fs' := [.ref q1, .ref q2, .ref q3, .ref q4, .int 0, .int 0, .int 1, .int 21, .ref q5, .ref q9, .ref q13, .ref q18, .ref q23, .ref q28, .int 0, .null, .null, .null, .null]) rfl 13 (by decide) q241 rfl rfl rfl rfl rfl (Nat.le_of_ble_eq_true rfl) rfl dX0_init_114 ?_
    refine sv_aload_n hC dX0_init_117 0 rfl rfl ?_
    refine sv_newC (ci := 6) (fs := [.null, .null]) hC in_X5 tyX5 tyX5_ok q182 q183 q58 rfl (fun j hj => by rcases (show j = 0 ∨ j = 1 by omega) with rfl | rfl <;> rfl) (Nat.le_of_ble_eq_true rfl) (Nat.le_of_ble_eq_true rfl) dX0_init_118 (fun q29 => ?_)
    refine sv_dup hC dX0_init_121 rfl ?_
    refine sv_aload_n hC dX0_init_122 0 rfl rfl ?_
    refine sv_ciN (nn := 1) hC (mi_Places hC.F  q29 b .null .null) (lw_meth q186) q58 q184 q185 rfl (by decide +kernel) ⟨by decide, by decide⟩ rfl rfl (Nat.le_of_ble_eq_true rfl) ⟨(Nat.le_of_ble_eq_true rfl), (Nat.le_of_ble_eq_true rfl)⟩ dX0_init_123 (fun v W hp => ?_)
    obtain ⟨rfl, q30, rfl⟩ := hp
    refine sv_wd (X' := (b, .inr (1, [.ref q1, .ref q2, .ref q3, .ref q4, .int 0, .int 0, .int 1, .int 21, .ref q5, .ref q9, .ref q13, .ref q18, .ref q23, .ref q28, .int 0, .null, .null, .null, .null])) :: _) (List.cons_append ..) ?_
    refine sv_putFC hC hmn in_X0 tyX0 tyX0_ok nmX0 (fs' := [.ref q1, .ref q2, .ref q3, .ref q4, .int 0, .int 0, .int 1, .int 21, .ref q5, .ref q9, .ref q13, .ref q18, .ref q23, .ref q28, .int 0, .ref q29, .null, .null, .null]) rfl 15 (by decide) q244 rfl rfl rfl rfl rfl (Nat.le_of_ble_eq_true rfl) rfl dX0_init_126 ?_
    refine sv_aload_n hC dX0_init_129 0 rfl rfl ?_
    refine sv_newC (ci := 6) (fs := [.null, .null]) hC in_X5 tyX5 tyX5_ok q182 q183 q58 rfl (fun j hj => by rcases (show j = 0 ∨ j = 1 by omega) with rfl | rfl <;> rfl) (Nat.le_of_ble_eq_true rfl) (Nat.le_of_ble_eq_true rfl) dX0_init_130 (fun q31 => ?_)
    refine sv_dup hC dX0_init_133 rfl ?_
    refine sv_aload_n hC dX0_init_134 0 rfl rfl ?_
    refine sv_ciN (nn := 1) hC (mi_Places hC.F  q31 b .null .null) (lw_meth q186) q58 q184 q185 rfl (by decide +kernel) ⟨by decide, by decide⟩ rfl rfl (Nat.le_of_ble_eq_true rfl) ⟨(Nat.le_of_ble_eq_true rfl), (Nat.le_of_ble_eq_true rfl)⟩ dX0_init_135 (fun v W hp => ?_)
    obtain ⟨rfl, q32, rfl⟩ := hp
    refine sv_wd (X' := (b, .inr (1, [.ref q1, .ref q2, .ref q3, .ref q4, .int 0, .int 0, .int 1, .int 21, .ref q5, .ref q9, .ref q13, .ref q18, .ref q23, .ref q28, .int 0, .ref q29, .null, .null, .null])) :: _) (List.cons_append ..) ?_
    refine sv_putFC hC hmn in_X0 tyX0 tyX0_ok nmX0 (fs' := [.ref q1, .ref q2, .ref q3, .ref q4, .int 0, .int 0, .int 1, .int 21, .ref q5, .ref q9, .ref q13, .ref q18, .ref q23, .ref q28, .int 0, .ref q29, .ref q31, .null, .null]) rfl 16 (by decide) q245 rfl rfl rfl rfl rfl (Nat.le_of_ble_eq_true rfl) rfl dX0_init_138 ?_
    refine sv_aload_n hC dX0_init_141 0 rfl rfl ?_
    refine sv_iconst hC (v := 4) dX0_init_142 (by decide) ?_
    refine sv_newaC (atype := .byte) hC rfl q145 1 rfl rfl (by decide) rfl (Nat.le_of_ble_eq_true rfl) (Nat.le_of_ble_eq_true rfl) (Nat.le_of_ble_eq_true rfl) dX0_init_143 (fun q33 => ?_)
    refine sv_putFC hC hmn in_X0 tyX0 tyX0_ok nmX0 (fs' := [.ref q1, .ref q2, .ref q3, .ref q4, .int 0, .int 0, .int 1, .int 21, .ref q5, .ref q9, .ref q13, .ref q18, .ref q23, .ref q28, .int 0, .ref q29, .ref q31, .ref q33, .null]) rfl 17 (by decide) q246 rfl rfl rfl rfl rfl (Nat.le_of_ble_eq_true rfl) rfl dX0_init_145 ?_
    refine sv_aload_n hC dX0_init_148 0 rfl rfl ?_
    refine sv_newC (ci := 7) (fs := [.int 0, .null, .int 0]) hC in_J3 tyJ3 tyJ3_ok q196 q197 q61 rfl (fun j hj => by rcases (show j = 0 ∨ j = 1 ∨ j = 2 by omega) with rfl | rfl | rfl <;> rfl) (Nat.le_of_ble_eq_true rfl) (Nat.le_of_ble_eq_true rfl) dX0_init_149 (fun q34 => ?_)
    refine sv_dup hC dX0_init_152 rfl ?_
    refine sv_ci (nn := 0) hC (mi_List hC.F hZ q34 (.int 0) .null (.int 0)) (lw_meth q200) q61 q198 q199 rfl (by decide +kernel) ⟨by decide, by decide⟩ rfl rfl (Nat.le_of_ble_eq_true rfl) ⟨(Nat.le_of_ble_eq_true rfl), (Nat.le_of_ble_eq_true rfl)⟩ dX0_init_153 (fun v W hp => ?_)
    obtain ⟨rfl, rfl⟩ := hp
    refine sv_wd (X' := (b, .inr (1, [.ref q1, .ref q2, .ref q3, .ref q4, .int 0, .int 0, .int 1, .int 21, .ref q5, .ref q9, .ref q13, .ref q18, .ref q23, .ref q28, .int 0, .ref q29, .ref q31, .ref q33, .null])) :: _) (List.cons_append ..) ?_
    refine sv_putFC hC hmn in_X0 tyX0 tyX0_ok nmX0 (fs' := [.ref q1, .ref q2, .ref q3, .ref q4, .int 0, .int 0, .int 1, .int 21, .ref q5, .ref q9, .ref q13, .ref q18, .ref q23, .ref q28, .int 0, .ref q29, .ref q31, .ref q33, .ref q34]) rfl 18 (by decide) q247 rfl rfl rfl rfl rfl (Nat.le_of_ble_eq_true rfl) rfl dX0_init_156 ?_
    exact sv_vret hC hQ dX0_init_159 ⟨rfl, q1, q2, q3, q4, q5, q6, q7, F8, hF8, q9, q10, q11, F12, hF12, q13, q14, q15, q16, q17, q18, q19, q20, q21, q22, q23, q24, q25, q26, q27, q28, q29, q30, q31, q32, q33, q34, rfl⟩)

