/-! rows over the system's world: told fields and coats, boxes, the boy -/
set_option maxRecDepth 100000
theorem sv_Bx {Γ : sv_G} {cc : ByteArray} {nL : Nat} {own : String} {ret : Option FieldType} {R : Room} {ic : Nat → Nat} (hC : sv_C Γ cc nL own ret R) (hB : vb_C ic (fun q => (sg_s0 Γ).heap.size ≤ q) (sg_s0 Γ) (sg_s0 Γ).heap) : vb_C ic (sg_A Γ) (sg_s Γ) (sg_s Γ).heap :=
  ((hB.moved hC.E.1.alike).kept (fun a h1 _ => hC.E.2.2 a h1)).narrow (fun q h => hC.lo q h)
section SZ
variable {Γ : sv_G} {cc : ByteArray} {nL : Nat} {own : String} {ret : Option FieldType} {R : Room} {X : va_W} {k n pc : Nat} {lv : List (Nat × Value)} {st : List Value} {z : XZ} {K : XK} {σ : MSt}
theorem sx_fget (hC : sv_C Γ cc nL own ret R) (hz : SP (sg_s0 Γ) (sg_dA Γ) z K) {j : Nat} {v : Int32 × Int32 × Int32} (ev : K.1 j = some v) (f : Nat) (hk : f < 3) {index : Nat} (hq : Cond.fieldLink own index (TX9 f).1 (TX9 f).2.1 (TX9 f).2.2.1 ∈ lw_all) {val : Value} (hv : [Value.int v.1, .int v.2.1, .int v.2.2][f]? = some val) (d : decode cc pc = .ok (.getfield index, 3)) (kk : sv_V Γ (SW (sg_dA Γ) z K σ) k n (pc + 3) lv (val :: st)) : sv_V Γ (SW (sg_dA Γ) z K σ) k n pc lv (va_rf ((K.1 j).map (fun _ => z.2.2.1 j)) :: st) := by
  rw [ev]
  obtain ⟨h1, h2⟩ := hz.1 j v ev
  obtain ⟨p, hp⟩ := sx_pool (dA := sg_dA Γ) (K := K) (σ := σ) h1
  rw [h2] at hp
  exact sv_get hC in_X9 p hp rfl f hk hq rfl hv d kk
theorem sx_cget (hC : sv_C Γ cc nL own ret R) (hz : SP (sg_s0 Γ) (sg_dA Γ) z K) {j : Nat} {v : Int32 × Int32} (ev : K.2.2.1 j = some v) (f : Nat) (hk : f < 2) {index : Nat} (hq : Cond.fieldLink own index (TX1 f).1 (TX1 f).2.1 (TX1 f).2.2.1 ∈ lw_all) {val : Value} (hv : [Value.int v.1, .int v.2][f]? = some val) (d : decode cc pc = .ok (.getfield index, 3)) (kk : sv_V Γ (SW (sg_dA Γ) z K σ) k n (pc + 3) lv (val :: st)) : sv_V Γ (SW (sg_dA Γ) z K σ) k n pc lv (va_rf ((K.2.2.1 j).map (fun _ => z.2.2.2.1 j)) :: st) := by
  rw [ev]
  obtain ⟨h1, h2⟩ := hz.2.2.1 j v ev
  obtain ⟨p, hp⟩ := sx_pool (dA := sg_dA Γ) (K := K) (σ := σ) h1
  rw [h2] at hp
  exact sv_get hC in_X1 p hp rfl f hk hq rfl hv d kk
theorem sx_rget (hC : sv_C Γ cc nL own ret R) (hz : SP (sg_s0 Γ) (sg_dA Γ) z K) {j : Nat} {v : Int32 × Int32 × Int32} (ev : K.2.2.2[j]? = some v) (f : Nat) (hk : f < 3) {index : Nat} (hq : Cond.fieldLink own index (TX10 f).1 (TX10 f).2.1 (TX10 f).2.2.1 ∈ lw_all) {val : Value} (hv : [Value.int v.1, .int v.2.1, .int v.2.2][f]? = some val) (d : decode cc pc = .ok (.getfield index, 3)) (kk : sv_V Γ (SW (sg_dA Γ) z K σ) k n (pc + 3) lv (val :: st)) : sv_V Γ (SW (sg_dA Γ) z K σ) k n pc lv (.ref (z.2.2.2.2.1 j) :: st) := by
  obtain ⟨h1, h2⟩ := hz.2.2.2.2.1 j v ev
  obtain ⟨p, hp⟩ := sx_pool (dA := sg_dA Γ) (K := K) (σ := σ) h1
  rw [h2] at hp
  exact sv_get hC in_X10 p hp rfl f hk hq rfl hv d kk
/-- a virtual call that needs nothing of the world, its receiver known anyhow -/
theorem sv_pVr (hC : sv_C Γ cc nL own ret R) {index nn : Nat} {y : MethodName} {bb : ByteArray} {L : Nat} {rt : Option FieldType} {rm : Room} {C : String} {b : Nat} {As rest : List Value} {r : Int32}
    (hM : sv_M (sg_l Γ) (sg_s0 Γ) (sg_D Γ) y bb L rt rm (.ref b :: As) [] (sv_pI r [])) (hrecv : ∀ (H : Heap) (locs : List Loc), va_P (sg_D Γ) sv_cl X H → va_S (sg_A Γ) (sg_s Γ).heap H locs → ∃ cellB : Cell, H[b]? = some cellB ∧ cellB.vm.isStatics = false ∧ (sg_s Γ).vm.findClass C = some cellB.cls) (hG : GoodIn lw_all (wsV own index C y (ws_ y bb L rt)))
    (hd : y.cls = C ∧ y.cls ≠ "java/lang/invoke/MethodHandle" ∧ y.cls ≠ "java/lang/invoke/VarHandle" ∧ (parseMethodDescriptor y.desc).map (fun d => d.parameters.length) = some nn) (hR : rm.frames + 1 ≤ R.frames ∧ 8 + (L + 11) + rm.locals ≤ R.locals) (hz0 : rm.cells = 0 ∧ rm.slots = 0) (hn : As.length = nn) {st0 : List Value} (hst : st0 = As.reverse ++ .ref b :: rest) (hW : (rest.map fun v => v.category).sum ≤ 8) (hf : k ≤ R.cells ∧ n ≤ R.slots) (d : decode cc pc = .ok (.invokevirtual index, 3))
    (kk : sv_V Γ X k n (pc + 3) lv (.int r :: rest)) : sv_V Γ X k n pc lv st0 := fun H locs ls hP hD hS hl => by
  subst hst
  refine sv_after (Xr := X) (Xc := []) (mc := rm.cells) (ms := rm.slots) [] (List.range X.length) rfl (sv_all X) (sv_nd _) (fun i _ h => by cases h) hC.hA hP hD hS hl (va_runV (C := C) (b := b) (As := As) ⟨hC.x, hC.b, hC.ml, hC.ow, hC.ts⟩ (hM H.size) (by rw [hC.Rm]; exact cwV nn hC.ts hG rfl rfl rfl hd hR) ⟨sv_blind, hrecv H locs hP hS, sv_pre hC [] rfl rfl hP hD hS⟩ rfl hn (by rw [← hC.nl]; exact hl.1) rfl (lv_room hW) d (by rw [hC.Rm, hz0.1, hz0.2]; exact hf)) (fun v W hp => by
    obtain ⟨rfl, rfl⟩ := hp
    rw [List.append_nil, hz0.1, hz0.2]
    exact kk)
/-- a call on a told coat -/
theorem sx_pVC (hC : sv_C Γ cc nL own ret R) (hz : SP (sg_s0 Γ) (sg_dA Γ) z K) {j : Nat} {v : Int32 × Int32} (ev : K.2.2.1 j = some v) {index nn : Nat} {y : MethodName} {bb : ByteArray} {L : Nat} {rt : Option FieldType} {rm : Room} {As rest : List Value} {r : Int32}
    (hM : sv_M (sg_l Γ) (sg_s0 Γ) (sg_D Γ) y bb L rt rm (.ref (z.2.2.2.1 j) :: As) [] (sv_pI r [])) (hG : GoodIn lw_all (wsV own index "StrawMen$Coat" y (ws_ y bb L rt)))
    (hd : y.cls = "StrawMen$Coat" ∧ y.cls ≠ "java/lang/invoke/MethodHandle" ∧ y.cls ≠ "java/lang/invoke/VarHandle" ∧ (parseMethodDescriptor y.desc).map (fun d => d.parameters.length) = some nn) (hR : rm.frames + 1 ≤ R.frames ∧ 8 + (L + 11) + rm.locals ≤ R.locals) (hz0 : rm.cells = 0 ∧ rm.slots = 0) (hn : As.length = nn) {st0 : List Value} (hst : st0 = As.reverse ++ va_rf ((K.2.2.1 j).map (fun _ => z.2.2.2.1 j)) :: rest) (hW : (rest.map fun v => v.category).sum ≤ 8) (hf : k ≤ R.cells ∧ n ≤ R.slots) (d : decode cc pc = .ok (.invokevirtual index, 3))
    (kk : sv_V Γ (SW (sg_dA Γ) z K σ) k n (pc + 3) lv (.int r :: rest)) : sv_V Γ (SW (sg_dA Γ) z K σ) k n pc lv st0 := by
  rw [ev] at hst
  obtain ⟨h1, h2⟩ := hz.2.2.1 j v ev
  obtain ⟨p, hp⟩ := sx_pool (dA := sg_dA Γ) (K := K) (σ := σ) h1
  rw [h2] at hp
  exact sv_pVr hC hM (fun H locs hP hS => va_recv (ci := 2) hC.K hP rfl hp) hG hd hR hz0 hn hst hW hf d kk
/-- a call on a box of the cache -/
theorem sx_pVB (hC : sv_C Γ cc nL own ret R) (hz : SP (sg_s0 Γ) (sg_dA Γ) z K) {j : Nat} {v : Int32} (ev : K.2.1 j = some v) {index nn : Nat} {y : MethodName} {bb : ByteArray} {L : Nat} {rt : Option FieldType} {rm : Room} {As rest : List Value} {r : Int32}
    (hM : sv_M (sg_l Γ) (sg_s0 Γ) (sg_D Γ) y bb L rt rm (.ref (z.2.1 (xb v)) :: As) [] (sv_pI r [])) (hG : GoodIn lw_all (wsV own index "java/lang/Integer" y (ws_ y bb L rt)))
    (hd : y.cls = "java/lang/Integer" ∧ y.cls ≠ "java/lang/invoke/MethodHandle" ∧ y.cls ≠ "java/lang/invoke/VarHandle" ∧ (parseMethodDescriptor y.desc).map (fun d => d.parameters.length) = some nn) (hR : rm.frames + 1 ≤ R.frames ∧ 8 + (L + 11) + rm.locals ≤ R.locals) (hz0 : rm.cells = 0 ∧ rm.slots = 0) (hn : As.length = nn) {st0 : List Value} (hst : st0 = As.reverse ++ va_rf ((K.2.1 j).map (fun v => z.2.1 (xb v))) :: rest) (hW : (rest.map fun v => v.category).sum ≤ 8) (hf : k ≤ R.cells ∧ n ≤ R.slots) (d : decode cc pc = .ok (.invokevirtual index, 3))
    (kk : sv_V Γ (SW (sg_dA Γ) z K σ) k n (pc + 3) lv (.int r :: rest)) : sv_V Γ (SW (sg_dA Γ) z K σ) k n pc lv st0 := by
  rw [ev] at hst
  exact sv_pVr hC hM (fun H locs hP hS => by
    obtain ⟨cell, h1, h2, h3, -⟩ := ((sv_Bx hC hz.2.2.2.2.2.2).1 (xb v) (hz.2.1 j v ev).1).kept hS.2.1
    exact ⟨cell, h1, h2, h3⟩) hG hd hR hz0 hn hst hW hf d kk
theorem sv_getB (hC : sv_C Γ cc nL own ret R) {ic : Nat → Nat} (hB : vb_C ic (fun q => (sg_s0 Γ).heap.size ≤ q) (sg_s0 Γ) (sg_s0 Γ).heap) {c : Nat} (hc : c < 256) {index : Nat} (hq : Cond.fieldLink own index "java/lang/Integer" "value" "I" ∈ lw_all) (d : decode cc pc = .ok (.getfield index, 3)) (kk : sv_V Γ X k n (pc + 3) lv (.int (vb_c c) :: st)) : sv_V Γ X k n pc lv (.ref (ic c) :: st) := fun H locs ls hP hD hS hl =>
  va_getX (i := c) (v := fun k => .int (vb_c k)) hC.x hC.b (sv_Bx hC hB).2 hc hS hC.ow (hC.ts _ hq) (fun x h => h) d (kk H locs ls hP hD hS hl)
/-- an inherited field -/
theorem sv_getS (hC : sv_C Γ cc nL own ret R) {ref C : String} {T : u_T} {N ci index a : Nat} (hin : ∀ w ∈ u_ws C T N, w ∈ lw_all) (q0 : Nat) {fs : List Value} (he : X[q0]? = some (a, .inr (ci, fs))) (hc : sv_cl[ci]? = some (C, T, N)) (f : Nat) (hk : f < N) (hq : Cond.fieldLink own index ref (T f).2.1 (T f).2.2.1 ∈ lw_all) (hs : Cond.sameField ref (T f).1 (T f).2.1 (T f).2.2.1 ∈ lw_all) {v : Value} (hv : fs[f]? = some v) (d : decode cc pc = .ok (.getfield index, 3))
    (kk : sv_V Γ X k n (pc + 3) lv (v :: st)) : sv_V Γ X k n pc lv (.ref a :: st) := fun H locs ls hP hD hS hl => va_get hC.x hC.b hC.ts hin hC.ow hC.K hP q0 he hc f hk (hC.ts _ hq) (fun x h => u_same (hC.ts _ hs) x h) hv d (kk H locs ls hP hD hS hl)
/-- super.m(..), which needs nothing of the world; the receiver is of class C -/
theorem sv_pSU (hC : sv_C Γ cc nL own ret R) {index nn : Nat} {y : MethodName} {bb : ByteArray} {L : Nat} {rt : Option FieldType} {rm : Room} {C : String} {b : Nat} {As rest : List Value} {r : Int32}
    (hM : sv_M (sg_l Γ) (sg_s0 Γ) (sg_D Γ) y bb L rt rm (.ref b :: As) [] (sv_pI r [])) (q0 ci : Nat) {fs : List Value} {q : vw_C} (he : X[q0]? = some (b, .inr (ci, fs))) (hc : sv_cl[ci]? = some q) (hqC : q.1 = C) (hG : GoodIn lw_all (va_wsSU own index y (ws_ y bb L rt)))
    (hd : y.name ≠ "<init>" ∧ (parseMethodDescriptor y.desc).map (fun d => d.parameters.length) = some nn) (hR : rm.frames + 1 ≤ R.frames ∧ 8 + (L + 11) + rm.locals ≤ R.locals) (hz0 : rm.cells = 0 ∧ rm.slots = 0) (hn : As.length = nn) {st0 : List Value} (hst : st0 = As.reverse ++ .ref b :: rest) (hW : (rest.map fun v => v.category).sum ≤ 8) (hf : k ≤ R.cells ∧ n ≤ R.slots) (d : decode cc pc = .ok (.invokespecial index, 3))
    (kk : sv_V Γ X k n (pc + 3) lv (.int r :: rest)) : sv_V Γ X k n pc lv st0 := fun H locs ls hP hD hS hl => by
  subst hst
  subst hqC
  have hat : ClassAt (sg_s Γ) q.1 ((sg_D Γ).1 ci) := (hC.K.1 ci q hc).2
  refine sv_after (Xr := X) (Xc := []) (mc := rm.cells) (ms := rm.slots) [] (List.range X.length) rfl (sv_all X) (sv_nd _) (fun i _ h => by cases h) hC.hA hP hD hS hl (va_runSU (C := q.1) (b := b) (As := As) hat ⟨hC.x, hC.b, hC.ml, hC.ow, hC.ts⟩ (hM H.size) (by rw [hC.Rm]; exact va_cwSU nn hC.ts hG rfl rfl rfl hd hR) ⟨sv_blind, va_recv hC.K hP hc he, sv_pre hC [] rfl rfl hP hD hS⟩ rfl hn (by rw [← hC.nl]; exact hl.1) rfl (lv_room hW) d (by rw [hC.Rm, hz0.1, hz0.2]; exact hf)) (fun v W hp => by
    obtain ⟨rfl, rfl⟩ := hp
    rw [List.append_nil, hz0.1, hz0.2]
    exact kk)
/-- a call that an overriding method answers, the whole world goes -/
theorem sv_wVO (hC : sv_C Γ cc nL own ret R) {index nn : Nat} {owner : String} {x y : MethodName} {bb : ByteArray} {L : Nat} {rt : Option FieldType} {rm : Room} {C : String} {b : Nat} {As rest : List Value} {r : Int32} {X' : va_W}
    (hM : sv_M (sg_l Γ) (sg_s0 Γ) (sg_D Γ) y bb L rt rm (.ref b :: As) X (sv_pI r X')) (q0 ci : Nat) {fs : List Value} {q : vw_C} (he : X[q0]? = some (b, .inr (ci, fs))) (hc : sv_cl[ci]? = some q) (hqC : q.1 = C) (hG : GoodIn lw_all (va_wsO own index C owner x y (ws_ y bb L rt))) {b0 : ByteArray} {m0 : Nat} {r0 : Option FieldType} (h0 : Cond.code ⟨owner, x.name, x.desc⟩ b0 m0 r0 ∈ lw_all)
    (hd : owner ≠ "java/lang/invoke/MethodHandle" ∧ owner ≠ "java/lang/invoke/VarHandle" ∧ (parseMethodDescriptor x.desc).map (fun d => d.parameters.length) = some nn) (hR : rm.frames + 1 ≤ R.frames ∧ 8 + (L + 11) + rm.locals ≤ R.locals) (hz0 : rm.cells = 0 ∧ rm.slots = 0) (hn : As.length = nn) {st0 : List Value} (hst : st0 = As.reverse ++ .ref b :: rest) (hW : (rest.map fun v => v.category).sum ≤ 8) (hf : k ≤ R.cells ∧ n ≤ R.slots) (d : decode cc pc = .ok (.invokevirtual index, 3))
    (kk : sv_V Γ X' k n (pc + 3) lv (.int r :: rest)) : sv_V Γ X k n pc lv st0 := fun H locs ls hP hD hS hl => by
  subst hst
  subst hqC
  refine sv_after (Xr := []) (Xc := X) (mc := rm.cells) (ms := rm.slots) (List.range X.length) [] (sv_all X) rfl rfl (fun i h => by cases h) hC.hA hP hD hS hl (va_runU (C := q.1) (b := b) (As := As) ⟨hC.x, hC.b, hC.ml, hC.ow, hC.ts⟩ (hM H.size) (by rw [hC.Rm]; exact va_cwO nn hC.ts hG rfl rfl rfl h0 hd hR) ⟨sv_blind, va_recv hC.K hP hc he, sv_pre hC (List.range X.length) (sv_all X) (sv_nd _) hP hD hS⟩ rfl hn (by rw [← hC.nl]; exact hl.1) rfl (lv_room hW) d (by rw [hC.Rm, hz0.1, hz0.2]; exact hf)) (fun v W hp => by
    obtain ⟨rfl, rfl⟩ := hp
    rw [hz0.1, hz0.2]
    exact kk)
end SZ
abbrev rm_0 : Room := { frames := 0, cells := 0, slots := 0, locals := 0 }
theorem met_intValue {l : Launch} {s0 : State} {D : va_G} {dA : Nat → ClassId} (hF : sv_F s0 D dA) {ic : Nat → Nat} (hB : vb_C ic (fun q => s0.heap.size ≤ q) s0 s0.heap) {c : Nat} (hc : c < 256) : sv_M l s0 D yJ15_intValue cJ15_intValue 1 (some .int) rm_0 [.ref (ic c)] [] (sv_pI (vb_c c) []) :=
  sv_met hF (by decide) (Nat.le_of_ble_eq_true rfl) (fun Γ hC hQ hmn e1 e2 e3 e4 => by
    subst e1 e2 e3 e4
    refine sv_aload_n hC dJ15_intValue_0 0 rfl rfl ?_
    refine sv_getB hC hB hc q723 dJ15_intValue_1 ?_
    exact sv_iret hC hQ dJ15_intValue_4 ⟨rfl, rfl⟩)
section SM
variable {Γ : sv_G} {cc : ByteArray} {nL : Nat} {own : String} {ret : Option FieldType} {R : Room} {X : va_W} {k n pc : Nat} {lv : List (Nat × Value)} {st : List Value}
theorem sv_mmin (hC : sv_C Γ cc nL own ret R) {index : Nat} (hq : Cond.methodLink own index Lib.Math.min.name ∈ lw_all) (hq1 : Cond.static Lib.Math.min.name ∈ lw_all) (hq2 : Cond.initialized "java/lang/Math" ∈ lw_all) (hq3 : Cond.code Lib.Math.min.name Lib.Math.min.code 2 (some .int) ∈ lw_all) (hfr : 1 ≤ R.frames) (hlo : (st.map fun v => v.category).sum + 13 ≤ R.locals) (hf : k ≤ R.cells ∧ n ≤ R.slots) {x y : Int32} (d : decode cc pc = .ok (.invokestatic index, 3)) (kk : sv_V Γ X k n (pc + 3) lv (.int (if y < x then y else x) :: st)) : sv_V Γ X k n pc lv (.int y :: .int x :: st) := fun H locs ls hP hD hS hl =>
  va_mmin hC.x hC.b (by rw [hC.ml, ← hC.nl]; exact hl.1.symm) hC.ow (hC.ts _ hq) (hC.ts _ hq1) (hC.ts _ hq2) (hC.ts _ hq3) (by rw [hC.Rm]; exact hfr) (by rw [hC.Rm]; exact hlo) (by rw [hC.Rm]; exact hf.1) (by rw [hC.Rm]; exact hf.2) d (kk H locs ls hP hD hS hl)
theorem sv_mmax (hC : sv_C Γ cc nL own ret R) {index : Nat} (hq : Cond.methodLink own index Lib.Math.max.name ∈ lw_all) (hq1 : Cond.static Lib.Math.max.name ∈ lw_all) (hq2 : Cond.initialized "java/lang/Math" ∈ lw_all) (hq3 : Cond.code Lib.Math.max.name Lib.Math.max.code 2 (some .int) ∈ lw_all) (hfr : 1 ≤ R.frames) (hlo : (st.map fun v => v.category).sum + 13 ≤ R.locals) (hf : k ≤ R.cells ∧ n ≤ R.slots) {x y : Int32} (d : decode cc pc = .ok (.invokestatic index, 3)) (kk : sv_V Γ X k n (pc + 3) lv (.int (if x < y then y else x) :: st)) : sv_V Γ X k n pc lv (.int y :: .int x :: st) := fun H locs ls hP hD hS hl =>
  va_mmax hC.x hC.b (by rw [hC.ml, ← hC.nl]; exact hl.1.symm) hC.ow (hC.ts _ hq) (hC.ts _ hq1) (hC.ts _ hq2) (hC.ts _ hq3) (by rw [hC.Rm]; exact hfr) (by rw [hC.Rm]; exact hlo) (by rw [hC.Rm]; exact hf.1) (by rw [hC.Rm]; exact hf.2) d (kk H locs ls hP hD hS hl)
end SM
theorem sx_u {α : Type} (o : Option α) (g : α → Nat) : o.map g = none ↔ o.isSome = false := by cases o <;> simp
section SZ2
variable {Γ : sv_G} {cc : ByteArray} {nL : Nat} {own : String} {ret : Option FieldType} {R : Room} {X : va_W} {k n pc : Nat} {lv : List (Nat × Value)} {st : List Value} {z : XZ} {K : XK} {σ : MSt}
theorem sv_ifnonnullU (hC : sv_C Γ cc nL own ret R) {f : Nat → Option Nat} {u : Nat → Bool} (hu : ∀ j, f j = none ↔ u j = false) {j : Nat} {off : Int} {tgt : Nat} (d : decode cc pc = .ok (.ifnonnull off, 3)) (ht : (pc : Int) + off = (tgt : Int)) (kt : ¬ u j = false → sv_V Γ X k n tgt lv st) (kf : u j = false → sv_V Γ X k n (pc + 3) lv st) : sv_V Γ X k n pc lv (va_rf (f j) :: st) := by
  cases e : f j with
  | none => exact sv_ifnonnullN hC d (kf ((hu j).mp e))
  | some v => exact sv_ifnonnull hC d ht (kt (fun h => by rw [(hu j).mpr h] at e; cases e))
/-- a static call that reads one cell -/
theorem sv_cSi (hC : sv_C Γ cc nL own ret R) {index nn : Nat} {y : MethodName} {bb : ByteArray} {L : Nat} {rt : Option FieldType} {rm : Room} {As rest : List Value} {c : Nat × va_E} {r : Int32} (q0 : Nat) (he : X[q0]? = some c)
    (hM : sv_M (sg_l Γ) (sg_s0 Γ) (sg_D Γ) y bb L rt rm As [c] (sv_pI r [c])) (hG : GoodIn lw_all (va_wsS own index y (ws_ y bb L rt)))
    (hd : y.cls ≠ "java/lang/invoke/MethodHandle" ∧ y.cls ≠ "java/lang/invoke/VarHandle" ∧ (parseMethodDescriptor y.desc).map (fun d => d.parameters.length) = some nn) (hR : rm.frames + 1 ≤ R.frames ∧ 8 + (L + 11) + rm.locals ≤ R.locals) (hz : rm.cells = 0 ∧ rm.slots = 0) (hn : As.length = nn) {st0 : List Value} (hst : st0 = As.reverse ++ rest) (hW : (rest.map fun v => v.category).sum ≤ 8) (hf : k ≤ R.cells ∧ n ≤ R.slots) (d : decode cc pc = .ok (.invokestatic index, 3))
    (kk : sv_V Γ X k n (pc + 3) lv (.int r :: rest)) : sv_V Γ X k n pc lv st0 := fun H0 locs0 ls0 hP0 hD0 hS0 hl0 => by
  have hl := (List.getElem?_eq_some_iff.mp he).1
  refine sv_callS (Xc := [c]) (Xr := ((List.range X.length).filter (fun i => decide (i ≠ q0))).filterMap (fun i => X[i]?)) hC [q0] ((List.range X.length).filter (fun i => decide (i ≠ q0))) (by rw [List.map_cons, he]; rfl) (sv_restX X _ (fun i hi => List.mem_range.mp (List.mem_filter.mp hi).1)) rfl (sv_ndR _ (List.Pairwise.sublist List.filter_sublist List.nodup_range)) (fun i hi h => by
    have h1 := (List.mem_filter.mp hi).2
    rw [List.mem_singleton] at h
    subst h
    simp at h1) hM hG hd hR hn hst hW (by rw [hz.1, hz.2]; exact hf) d (fun v W hp => ?_) H0 locs0 ls0 hP0 hD0 hS0 hl0
  obtain ⟨rfl, rfl⟩ := hp
  rw [hz.1, hz.2]
  intro H locs ls hP hD hS hl2
  obtain ⟨g1, g2⟩ := sv_cellW he rfl hP hD0
  have hX : X.set q0 c = X := by
    rw [(List.getElem?_eq_some_iff.mp he).2.symm]
    exact List.set_getElem_self hl
  exact kk H locs ls (hX ▸ g1) (hX ▸ g2) hS hl2
theorem sv_wVa (hC : sv_C Γ cc nL own ret R) {index nn : Nat} {y : MethodName} {bb : ByteArray} {L : Nat} {rt : Option FieldType} {rm : Room} {C : String} {b : Nat} {As rest : List Value} {r : Nat} {X' : va_W}
    (hM : sv_M (sg_l Γ) (sg_s0 Γ) (sg_D Γ) y bb L rt rm (.ref b :: As) X (sv_pA r X')) (q0 ci : Nat) {fs : List Value} {q : vw_C} (he : X[q0]? = some (b, .inr (ci, fs))) (hc : sv_cl[ci]? = some q) (hqC : q.1 = C) (hG : GoodIn lw_all (wsV own index C y (ws_ y bb L rt)))
    (hd : y.cls = C ∧ y.cls ≠ "java/lang/invoke/MethodHandle" ∧ y.cls ≠ "java/lang/invoke/VarHandle" ∧ (parseMethodDescriptor y.desc).map (fun d => d.parameters.length) = some nn) (hR : rm.frames + 1 ≤ R.frames ∧ 8 + (L + 11) + rm.locals ≤ R.locals) (hz : rm.cells = 0 ∧ rm.slots = 0) (hn : As.length = nn) {st0 : List Value} (hst : st0 = As.reverse ++ .ref b :: rest) (hW : (rest.map fun v => v.category).sum ≤ 8) (hf : k ≤ R.cells ∧ n ≤ R.slots) (d : decode cc pc = .ok (.invokevirtual index, 3))
    (kk : sv_V Γ X' k n (pc + 3) lv (.ref r :: rest)) : sv_V Γ X k n pc lv st0 :=
  sv_wV hC hM q0 ci he hc hqC hG hd hR hn hst hW (by rw [hz.1, hz.2]; exact hf) d (fun v W hp => by
    obtain ⟨rfl, rfl⟩ := hp
    rw [hz.1, hz.2]
    exact kk)
theorem sx_castR (hC : sv_C Γ cc nL own ret R) (hz : SP (sg_s0 Γ) (sg_dA Γ) z K) {j : Nat} (hj : j < K.2.2.2.length) {index : Nat} (hq : Cond.classLink own index "StrawMen$Row" ∈ lw_all) (d : decode cc pc = .ok (.checkcast index, 3)) (kk : sv_V Γ (SW (sg_dA Γ) z K σ) k n (pc + 3) lv (.ref (z.2.2.2.2.1 j) :: st)) : sv_V Γ (SW (sg_dA Γ) z K σ) k n pc lv (.ref (z.2.2.2.2.1 j) :: st) := fun H locs ls hP hD hS hl => by
  obtain ⟨h1, h2⟩ := hz.2.2.2.2.1 j _ (List.getElem?_eq_getElem hj)
  obtain ⟨p, hp⟩ := sx_pool (dA := sg_dA Γ) (K := K) (σ := σ) h1
  rw [h2] at hp
  have hcl : sv_cl[14]? = some (RX10, TX10, 3) := rfl
  exact va_castS hC.x hC.b hC.ow (hC.ts _ hq) (hC.K.1 14 _ hcl).2 (va_recv (ci := 14) hC.K hP hcl hp) d (kk H locs ls hP hD hS hl)
end SZ2
abbrev rm_ix : Room := { frames := 1, cells := 0, slots := 0, locals := 22 }
theorem met_pcheck {l : Launch} {s0 : State} {D : va_G} {dA : Nat → ClassId} (hF : sv_F s0 D dA) {i N : Int32} (h0 : ¬ i < 0) (h1 : i < N) : sv_M l s0 D yJ11_checkIndex cJ11_checkIndex 3 (some .int) rm_0 [.int i, .int N, .null] [] (sv_pI i []) :=
  sv_met hF (by decide) (Nat.le_of_ble_eq_true rfl) (fun Γ hC hQ hmn e1 e2 e3 e4 => by
    subst e1 e2 e3 e4
    refine sv_iload_n hC dJ11_checkIndex_0 0 rfl rfl ?_
    refine sv_if_lt hC (tgt := 9) dJ11_checkIndex_1 (by decide) (fun c => absurd c h0) (fun c => ?_)
    refine sv_iload_n hC dJ11_checkIndex_4 0 rfl rfl ?_
    refine sv_iload_n hC dJ11_checkIndex_5 1 rfl rfl ?_
    refine sv_icmp_lt hC (tgt := 16) dJ11_checkIndex_6 (by decide) (fun c => ?_) (fun c => absurd h1 c)
    refine sv_iload_n hC dJ11_checkIndex_16 0 rfl rfl ?_
    exact sv_iret hC hQ dJ11_checkIndex_17 ⟨rfl, rfl⟩)
theorem met_ocheck {l : Launch} {s0 : State} {D : va_G} {dA : Nat → ClassId} (hF : sv_F s0 D dA) {i N : Int32} (h0 : ¬ i < 0) (h1 : i < N) : sv_M l s0 D yJ19_checkIndex cJ19_checkIndex 2 (some .int) rm_ix [.int i, .int N] [] (sv_pI i []) :=
  sv_met hF (by decide) (Nat.le_of_ble_eq_true rfl) (fun Γ hC hQ hmn e1 e2 e3 e4 => by
    subst e1 e2 e3 e4
    refine sv_iload_n hC dJ19_checkIndex_0 0 rfl rfl ?_
    refine sv_iload_n hC dJ19_checkIndex_1 1 rfl rfl ?_
    refine sv_null hC dJ19_checkIndex_2 ?_
    refine sv_pSi (nn := 3) hC (met_pcheck hC.F h0 h1) (lw_S q1037 q478 q72 q479) (by decide +kernel) ⟨by decide, by decide⟩ ⟨rfl, rfl⟩ rfl rfl (Nat.le_of_ble_eq_true rfl) ⟨Nat.le_refl 0, Nat.le_refl 0⟩ dJ19_checkIndex_3 ?_
    exact sv_iret hC hQ dJ19_checkIndex_6 ⟨rfl, rfl⟩)
abbrev rm_J3_get : Room := { frames := 2, cells := 0, slots := 0, locals := 60 }
theorem met_J3_size {l : Launch} {s0 : State} {D : va_G} {dA : Nat → ClassId} (hF : sv_F s0 D dA) (z : XZ) (K : XK) (σ : MSt) : sv_M l s0 D yJ3_size cJ3_size 1 (some .int) rm_0 [.ref (z.1 19)] (SW dA z K σ) (sv_pI (Int32.ofNat K.2.2.2.length) (SW dA z K σ)) :=
  sv_met hF (by decide) (Nat.le_of_ble_eq_true rfl) (fun Γ hC hQ hmn e1 e2 e3 e4 => by
    subst e1 e2 e3 e4
    refine sv_aload_n hC dJ3_size_0 0 rfl rfl ?_
    refine sv_get hC in_J3 19 (sx_at (by decide)) rfl 2 (by decide) q211 rfl (v := .int (Int32.ofNat K.2.2.2.length)) rfl dJ3_size_1 ?_
    exact sv_iret hC hQ dJ3_size_4 ⟨rfl, rfl⟩)
theorem met_J3_elementData {l : Launch} {s0 : State} {D : va_G} {dA : Nat → ClassId} (hF : sv_F s0 D dA) (z : XZ) (K : XK) (hz : SP s0 dA z K) (σ : MSt) (i : Int32) {j : Nat} (hj : sv_ix i K.2.2.2.length = some j) : sv_M l s0 D yJ3_elementData cJ3_elementData 2 (some (.object "java/lang/Object")) rm_0 [.ref (z.1 19), .int i] (SW dA z K σ) (sv_pA (z.2.2.2.2.1 j) (SW dA z K σ)) :=
  sv_met hF (by decide) (Nat.le_of_ble_eq_true rfl) (fun Γ hC hQ hmn e1 e2 e3 e4 => by
    subst e1 e2 e3 e4
    have hlt := sv_ixl hj
    have hne : K.2.2.2 ≠ [] := fun h => by rw [h] at hlt; exact absurd hlt (Nat.not_lt_zero _)
    obtain ⟨hm, en, g, hg, hen, hgj⟩ := hz.2.2.2.2.2.1 hne
    obtain ⟨p, hp⟩ := sx_pool (dA := sg_dA Γ) (K := K) (σ := σ) hm
    rw [hg] at hp
    have hj2 : sv_ix i en = some j := by
      obtain ⟨q1, q2⟩ := sv_ix_in hj
      unfold sv_ix
      rw [if_neg (fun q => q1 (Or.inl q)), if_pos (by omega), q2]
    refine sv_aload_n hC dJ3_elementData_0 0 rfl rfl ?_
    refine sv_get hC in_J3 19 (sx_at (by decide)) rfl 1 (by decide) q210 rfl (v := .ref z.2.2.2.2.2.1) rfl dJ3_elementData_1 ?_
    refine sv_iload_n hC dJ3_elementData_4 1 rfl rfl ?_
    refine sv_aldr hC p 9 hp rfl rfl hj2 (hgj j hlt) dJ3_elementData_5 ?_
    exact sv_aret hC hQ dJ3_elementData_6 (Or.inl ⟨_, rfl⟩) (Or.inr ⟨_, rfl⟩) ⟨rfl, rfl⟩)
theorem met_J3_get {l : Launch} {s0 : State} {D : va_G} {dA : Nat → ClassId} (hF : sv_F s0 D dA) (z : XZ) (K : XK) (hz : SP s0 dA z K) (σ : MSt) (i : Int32) {j : Nat} (hj : sv_ix i K.2.2.2.length = some j) : sv_M l s0 D yJ3_get cJ3_get 2 (some (.object "java/lang/Object")) rm_J3_get [.ref (z.1 19), .int i] (SW dA z K σ) (sv_pA (z.2.2.2.2.1 j) (SW dA z K σ)) :=
  sv_met hF (by decide) (Nat.le_of_ble_eq_true rfl) (fun Γ hC hQ hmn e1 e2 e3 e4 => by
    subst e1 e2 e3 e4
    have hlt := sv_ixl hj
    obtain ⟨q1, q2⟩ := sv_ix_in hj
    have hi : i = nI j := by
      obtain ⟨j2, h2, h3⟩ := vp_in_of q1 (by have := hz.2.2.2.1; omega)
      rw [h3, nI_clamp (by have := hz.2.2.2.1; omega)] at q2
      rw [h3, q2]
    refine sv_iload_n hC dJ3_get_0 1 rfl rfl ?_
    refine sv_aload_n hC dJ3_get_1 0 rfl rfl ?_
    refine sv_get hC in_J3 19 (sx_at (by decide)) rfl 2 (by decide) q211 rfl (v := .int (Int32.ofNat K.2.2.2.length)) rfl dJ3_get_2 ?_
    refine sv_pSi (nn := 2) hC (met_ocheck hC.F (fun q => q1 (Or.inl q)) (by rw [hi]; exact nI_lt hlt (by have := hz.2.2.2.1; omega))) (lw_S q1034 q1035 q84 q1036) (by decide +kernel) ⟨by decide, by decide⟩ ⟨rfl, rfl⟩ rfl rfl (Nat.le_of_ble_eq_true rfl) ⟨Nat.le_refl 0, Nat.le_refl 0⟩ dJ3_get_5 ?_
    refine sv_pop hC dJ3_get_8 rfl ?_
    refine sv_aload_n hC dJ3_get_9 0 rfl rfl ?_
    refine sv_iload_n hC dJ3_get_10 1 rfl rfl ?_
    refine sv_wVa (nn := 1) hC (met_J3_elementData hC.F z K hz σ i hj) 19 7 (sx_at (by decide)) rfl rfl (lw_V q1038 q1039 q1040 q61 q1041) (by decide +kernel) ⟨by decide, by decide⟩ ⟨rfl, rfl⟩ rfl rfl (Nat.le_of_ble_eq_true rfl) ⟨Nat.le_refl 0, Nat.le_refl 0⟩ dJ3_get_11 ?_
    exact sv_aret hC hQ dJ3_get_14 (Or.inl ⟨_, rfl⟩) (Or.inr ⟨_, rfl⟩) ⟨rfl, rfl⟩)
