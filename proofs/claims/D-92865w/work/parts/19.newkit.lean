/-! ROWS THAT MAKE CELLS; constructors -/
set_option maxRecDepth 100000
theorem sv_AOA {t : FieldType} {u U : State} (hvm : u.vm.Alike U.vm) (h : (Cond.arrayOver (.array t)).before #[] u = true) : (Cond.arrayOver (.array t)).before #[] U = true := by
  simp only [Cond.before, Cond.holds, Cond.value, beq_iff_eq] at h ⊢
  cases hc : u.vm.findClass (FieldType.array t).toString with
  | none => simp [hc] at h
  | some comp =>
    simp only [hc, Option.bind_some, Option.bind_eq_some_iff, Option.map_eq_some_iff] at h
    obtain ⟨c, hi, k, hk, hb⟩ := h
    obtain ⟨k', hk', he⟩ := hvm.2.2 _ _ hk
    have hb2 : U.vm.bare = u.vm.bare := by first | exact hvm.bare_eq | exact hvm.bare_eq.symm
    have e := va_idx_bare U.vm comp
    rw [hb2] at e
    have e3 := e.symm.trans (va_idx_bare u.vm comp)
    have hi2 := e3.trans hi
    simp only [hvm.findClass, hc, Option.bind_some, Option.bind_eq_some_iff, Option.map_eq_some_iff]
    exact ⟨c, hi2, k', hk', by rw [he]; exact hb⟩
theorem sv_outer (c : ClassId) (N h0 i : Nat) : Jvm.Free.Multi.outerC c N h0 i = { cls := c, slots := (Jvm.Free.Multi.outerC c N h0 i).slots, vm := .none } := by
  induction i with
  | zero => rfl
  | succ i ih =>
    show (Jvm.Free.Multi.outerC c N h0 i).setSlot i (.ref (h0 + 1 + i)) = { cls := c, slots := ((Jvm.Free.Multi.outerC c N h0 i).setSlot i (.ref (h0 + 1 + i))).slots, vm := .none }
    rw [ih]
    rfl
theorem sv_RAu {U : State} {a b : ClassId} {ty : FieldType} (h1 : va_RA U a ty) (h2 : va_RA U b ty) : a = b := by
  cases ty with
  | object C =>
    obtain ⟨-, -, -, -, -, h3⟩ := h1
    obtain ⟨-, -, -, -, -, h4⟩ := h2
    exact Option.some.inj (h3.symm.trans h4)
  | _ => exact Option.some.inj (Eq.trans (Eq.symm h1) h2)
/-- rows of a made array of arrays: at q, q + 1, .. -/
def fm (q N : Nat) (cA : ClassId) (len : Nat) (F : Nat → Nat → Int32) : va_W := (List.range N).map (fun j => (q + j, .inl (cA, len, .inl (F j))))
section SN
variable {Γ : sv_G} {cc : ByteArray} {nL : Nat} {own : String} {ret : Option FieldType} {R : Room} {X : va_W} {k n pc : Nat} {lv : List (Nat × Value)} {st : List Value}
theorem sv_C.nwO (h : sv_C Γ cc nL own ret R) {C : String} (hq : Cond.arrayOver (.object C) ∈ lw_tbl) : va_AO C (sg_s Γ) := by
  obtain ⟨b0, h1, -⟩ := h.F.2
  exact va_AO.moved h.E.1.alike (h1 _ hq)
theorem sv_C.nwA (h : sv_C Γ cc nL own ret R) {t : FieldType} (hq : Cond.arrayOver (.array t) ∈ lw_tbl) : (Cond.arrayOver (.array t)).before (sg_args Γ) (sg_s Γ) = true := by
  obtain ⟨b0, h1, -⟩ := h.F.2
  exact sv_AOA h.E.1.alike (h1 _ hq)
theorem sv_new (hC : sv_C Γ cc nL own ret R) {C : String} {T : u_T} {N ci index : Nat} (hin : ∀ w ∈ u_ws C T N, w ∈ lw_all) (ty : Nat → FieldType) (hty : ∀ k, k < N → parseFieldDescriptor (T k).2.2.1 = some (ty k)) (hcl : Cond.classLink own index C ∈ lw_all) (hinst : Cond.instantiable C N ∈ lw_all) (hini : Cond.initialized C ∈ lw_all) (hc : sv_cl[ci]? = some (C, T, N)) {fs : List Value} (hfs : ∀ j, j < N → defaultValue (ty j) = vp_V fs j) (hcells : k + 1 ≤ R.cells) (hslots : n + N ≤ R.slots) (d : decode cc pc = .ok (.new index, 3))
    (kk : ∀ q : Nat, sv_V Γ (X ++ [(q, .inr (ci, fs))]) (k + 1) (n + N) (pc + 3) lv (.ref q :: st)) : sv_V Γ X k n pc lv st := fun H locs ls hP hD hS hl =>
  va_new hC.x hC.b hC.ts hin ty hty hC.ow (hC.ts _ hcl) (hC.ts _ hinst) (hC.ts _ hini) hC.K hP hD hS hC.hA hc hfs (by rw [hC.Rm]; exact hcells) (by rw [hC.Rm]; exact hslots) d (fun q H1 hP1 hD1 hS1 => kk q H1 locs ls hP1 hD1 hS1 hl)
theorem sv_newa (hC : sv_C Γ cc nL own ret R) {atype : ArrayType} {ty : FieldType} (hty : newarray.typeOf atype = ty) (hq : Cond.arrayClass ty ∈ lw_all) (kd : Nat) (ht : (sv_ty (sg_dA Γ))[kd]? = some (sg_dA Γ kd, ty)) {m : Int32} {N : Nat} (hdv : defaultValue ty = .int 0) (hn : ¬ m < 0) (hN : m.toNatClampNeg = N) (hbytes : N * componentBytes ty ≤ 536870912) (hcells : k + 1 ≤ R.cells) (hslots : n + N ≤ R.slots) (d : decode cc pc = .ok (.newarray atype, 2))
    (kk : ∀ q : Nat, sv_V Γ (X ++ [(q, .inl (sg_dA Γ kd, N, .inl (fun _ => 0)))]) (k + 1) (n + N) (pc + 2) lv (.ref q :: st)) : sv_V Γ X k n pc lv (.int m :: st) := fun H locs ls hP hD hS hl => by
  subst hty
  refine va_newa (atype := atype) (a0 := (N, .inl (fun _ => 0))) hC.x hC.b (hC.ts _ hq) rfl hC.K hP hD hS hC.hA (fun cA => by rw [hdv]; rfl) hn hN hbytes (by rw [hC.Rm]; exact hcells) (by rw [hC.Rm]; exact hslots) d (fun q cA H1 hK1 hP1 hD1 hS1 => ?_)
  have h1 := (hK1.2 (sv_ty (sg_dA Γ)).length _ (by rw [List.getElem?_append_right (Nat.le_refl _), Nat.sub_self]; rfl)).2
  have h2 : cA = sg_dA Γ kd := sv_RAu h1 (hC.K.2 kd _ ht).2
  subst h2
  exact kk q H1 locs ls hP1 hD1 hS1 hl
theorem sv_anew (hC : sv_C Γ cc nL own ret R) {C : String} {index : Nat} (hq : Cond.classLink own index C ∈ lw_all) (hq2 : Cond.arrayOver (.object C) ∈ lw_tbl) (kd : Nat) (ht : (sv_ty (sg_dA Γ))[kd]? = some (sg_dA Γ kd, .object C)) {m : Int32} {N : Nat} (hn : ¬ m < 0) (hN : m.toNatClampNeg = N) (hbytes : N * 4 ≤ 536870912) (hcells : k + 1 ≤ R.cells) (hslots : n + N ≤ R.slots) (d : decode cc pc = .ok (.anewarray index, 3))
    (kk : ∀ q : Nat, sv_V Γ (X ++ [(q, .inl (sg_dA Γ kd, N, xq (fun _ => none)))]) (k + 1) (n + N) (pc + 3) lv (.ref q :: st)) : sv_V Γ X k n pc lv (.int m :: st) := fun H locs ls hP hD hS hl => by
  refine va_newq hC.x hC.b hC.ow (hC.ts _ hq) (hC.nwO hq2) hC.K hP hD hS hC.hA hn hN hbytes (by rw [hC.Rm]; exact hcells) (by rw [hC.Rm]; exact hslots) d (fun q cA H1 hK1 hP1 hD1 hS1 => ?_)
  have h1 := (hK1.2 (sv_ty (sg_dA Γ)).length _ (by rw [List.getElem?_append_right (Nat.le_refl _), Nat.sub_self]; rfl)).2
  have h2 : cA = sg_dA Γ kd := sv_RAu h1 (hC.K.2 kd _ ht).2
  subst h2
  exact kk q H1 locs ls hP1 hD1 hS1 hl
theorem sv_multi (hC : sv_C Γ cc nL own ret R) {ty : FieldType} {index : Nat} (hq : Cond.classLink own index ("[" ++ (FieldType.array ty).toString) ∈ lw_all) (hq2 : Cond.arrayOver (.array ty) ∈ lw_tbl) (hq3 : Cond.arrayClass ty ∈ lw_all) (ko ki : Nat) (hto : (sv_ty (sg_dA Γ))[ko]? = some (sg_dA Γ ko, .array ty)) (hti : (sv_ty (sg_dA Γ))[ki]? = some (sg_dA Γ ki, ty)) (hstr : (FieldType.array ty).toString = "[" ++ ty.toString) (hobj : ∀ C, ty ≠ .object C) (hdv : defaultValue ty = .int 0) {m1 m2 : Int32} {N M : Nat} (hn : ¬ m1 < 0) (hk : ¬ m2 < 0) (hN : m1.toNatClampNeg = N) (hM : m2.toNatClampNeg = M) (hb1 : N * 4 ≤ 536870912) (hb2 : M * componentBytes ty ≤ 536870912) (hb3 : M ≤ 536870912) (hdf : fits ty (defaultValue ty) = true) (hdd : (defaultValue ty).isDefault = true) (hcells : k + (1 + N) ≤ R.cells) (hslots : n + (N + N * M) ≤ R.slots) (d : decode cc pc = .ok (.multianewarray index 2, 4))
    (kk : ∀ q : Nat, sv_V Γ (X ++ ((q, .inl (sg_dA Γ ko, N, xq (fun j => some (q + 1 + j)))) :: fm (q + 1) N (sg_dA Γ ki) M (fun _ _ => 0))) (k + 1 + N) (n + N + N * M) (pc + 4) lv (.ref q :: st)) : sv_V Γ X k n pc lv (.int m2 :: .int m1 :: st) := fun H locs ls hP hD hS hl T hT Y => by
  subst hN
  subst hM
  obtain ⟨vm₁, cA, comp, hW, hfA, hfC, hO, hI, Y1, step⟩ := Y.multianewarray2F hC.x hC.ow (hC.ts _ hq) (hC.nwA hq2) (hC.ts _ hq3) (g := F0 (sg_m Γ) pc ls (.int m2 :: .int m1 :: st)) rfl (by rw [hC.b]; exact d) (n := m1) (k := m2) (rest := st) rfl hn hk hb1 hb2 hb3 hdf hdd (by rw [hC.Rm]; exact hcells) (by rw [hC.Rm]; exact hslots)
  obtain ⟨f1, f2, f3, f4⟩ := Jvm.Free.Multi.fill_facts (T.setVm vm₁) cA comp m1.toNatClampNeg m2.toNatClampNeg (defaultValue ty) m1.toNatClampNeg
  obtain ⟨o1, o2, o3⟩ := Jvm.Free.Multi.outerC_facts cA m1.toNatClampNeg (T.setVm vm₁).heap.size m1.toNatClampNeg
  have hsz : (T.setVm vm₁).heap.size = H.size := by show T.heap.size = _; rw [hT]
  have hcA : cA = sg_dA Γ ko := by
    have h2 : va_RA (sg_s Γ) (sg_dA Γ ko) (.array ty) := (hC.K.2 ko _ hto).2
    exact Option.some.inj (hfA.symm.trans h2)
  have hcI : comp = sg_dA Γ ki := by
    have h2 := (hC.K.2 ki _ hti).2
    have h3 : (sg_s Γ).vm.findClass ("[" ++ ty.toString) = some (sg_dA Γ ki) := by
      cases ty with
      | object C => exact absurd rfl (hobj C)
      | _ => exact h2
    rw [hstr] at hfC
    exact Option.some.inj (hfC.symm.trans h3)
  subst hcA
  subst hcI
  generalize hH1 : (Jvm.Free.Multi.fill (T.setVm vm₁) (sg_dA Γ ko) (sg_dA Γ ki) m1.toNatClampNeg m2.toNatClampNeg (defaultValue ty) m1.toNatClampNeg).heap = H1 at f1 f2
  have hold : ∀ q : Nat, q < H.size → H1[q]? = H[q]? := fun q hq => by
    rw [← hH1, Jvm.Free.Multi.fill_old _ _ _ _ _ _ (by rw [hsz]; exact hq)]
    show T.heap[q]? = _
    rw [hT]
  have hz1 : H1.size = H.size + 1 + m1.toNatClampNeg := by rw [f1, hsz]
  have hlen : (fm (H.size + 1) m1.toNatClampNeg (sg_dA Γ ki) m2.toNatClampNeg (fun _ _ => 0)).length = m1.toNatClampNeg := by simp [fm]
  have hat : ∀ j : Nat, (fm (H.size + 1) m1.toNatClampNeg (sg_dA Γ ki) m2.toNatClampNeg (fun _ _ => 0))[j]? = if j < m1.toNatClampNeg then some (H.size + 1 + j, .inl (sg_dA Γ ki, m2.toNatClampNeg, .inl (fun _ => 0))) else none := fun j => by
    unfold fm
    rw [List.getElem?_map]
    by_cases hj : j < m1.toNatClampNeg
    · rw [List.getElem?_range hj, if_pos hj]; rfl
    · rw [List.getElem?_eq_none (by simpa using hj), if_neg hj]; rfl
  have hnew : va_P (sg_D Γ) sv_cl ((H.size, .inl (sg_dA Γ ko, m1.toNatClampNeg, xq (fun j => some (H.size + 1 + j)))) :: fm (H.size + 1) m1.toNatClampNeg (sg_dA Γ ki) m2.toNatClampNeg (fun _ _ => 0)) H1 := fun i q hi => by
    cases i with
    | zero =>
      cases hi
      show H1[H.size]? = some (vp_cell _ _)
      rw [vp_cell_q, ← hsz, f2]
      congr 1
      have hs : ∀ j, j < m1.toNatClampNeg → (Jvm.Free.Multi.outerC (sg_dA Γ ko) m1.toNatClampNeg (T.setVm vm₁).heap.size m1.toNatClampNeg).slots[j]? = some (.ref ((T.setVm vm₁).heap.size + 1 + j)) := fun j hj => by
        rw [Jvm.Free.Multi.outerC_slot _ _ _ _ _ hj, if_pos hj]
      rw [sv_outer]
      generalize (Jvm.Free.Multi.outerC (sg_dA Γ ko) m1.toNatClampNeg (T.setVm vm₁).heap.size m1.toNatClampNeg).slots = slots at o3 hs ⊢
      unfold arrV
      congr 1
      apply Array.ext
      · simpa using o3
      · intro j hj1 hj2
        have h5 := hs j (by rw [← o3]; exact hj1)
        rw [Array.getElem?_eq_getElem hj1] at h5
        rw [Option.some.inj h5, Array.getElem_ofFn]
        rfl
    | succ i =>
      rw [List.getElem?_cons_succ, hat i] at hi
      by_cases hj : i < m1.toNatClampNeg
      · rw [if_pos hj] at hi
        cases hi
        show H1[H.size + 1 + i]? = some (vp_cell _ _)
        rw [vp_cell_i, ← hH1, ← hsz, Jvm.Free.Multi.fill_inner _ _ _ _ _ _ _ _ hj]
        congr 1
        unfold Jvm.Free.Multi.innerC arrV
        rw [hdv]
        congr 1
        apply Array.ext
        · simp
        · intro j hj1 hj2
          simp
      · rw [if_neg hj] at hi; cases hi
  have hP1 : va_P (sg_D Γ) sv_cl (X ++ ((H.size, .inl (sg_dA Γ ko, m1.toNatClampNeg, xq (fun j => some (H.size + 1 + j)))) :: fm (H.size + 1) m1.toNatClampNeg (sg_dA Γ ki) m2.toNatClampNeg (fun _ _ => 0))) H1 := (hP.kept (fun i q hi => hold q.1 ((hP i q hi).lt))).app hnew
  have hge : ∀ (i : Nat) (q : Nat × va_E), ((H.size, Sum.inl (sg_dA Γ ko, m1.toNatClampNeg, xq (fun j => some (H.size + 1 + j)))) :: fm (H.size + 1) m1.toNatClampNeg (sg_dA Γ ki) m2.toNatClampNeg (fun _ _ => 0))[i]? = some q → q.1 = H.size + i := fun i q hi => by
    cases i with
    | zero => cases hi; rfl
    | succ i =>
      rw [List.getElem?_cons_succ, hat i] at hi
      by_cases hj : i < m1.toNatClampNeg
      · rw [if_pos hj] at hi; cases hi; show H.size + 1 + i = _; omega
      · rw [if_neg hj] at hi; cases hi
  have hD1 : va_D (sg_A Γ) (X ++ ((H.size, .inl (sg_dA Γ ko, m1.toNatClampNeg, xq (fun j => some (H.size + 1 + j)))) :: fm (H.size + 1) m1.toNatClampNeg (sg_dA Γ ki) m2.toNatClampNeg (fun _ _ => 0))) := by
    refine va_D.app hD ⟨fun i j x y hi hj hxy => ?_, fun i q hi => hC.hA _ (by rw [hge i q hi]; exact Nat.le_trans hS.1 (Nat.le_add_right _ _))⟩ (fun i j x y hi hj hxy => ?_)
    · rw [hge i x hi, hge j y hj] at hxy; omega
    · have := (hP i x hi).lt
      rw [hge j y hj] at hxy
      omega
  have hS1 : va_S (sg_A Γ) (sg_s Γ).heap H1 locs := ⟨Nat.le_trans hS.1 (by omega), fun q h1 h2 => by rw [hold q (Nat.lt_of_lt_of_le h1 hS.1)]; exact hS.2.1 q h1 h2, hS.2.2⟩
  obtain ⟨t, a1, b1⟩ := kk H.size H1 locs ls hP1 hD1 hS1 hl _ hH1 Y1
  refine ⟨t, step _ ?_, b1⟩
  rw [hT]
  exact a1
/-- Object's constructor -/
theorem sv_oinit (hC : sv_C Γ cc nL own ret R) {index a : Nat} (hq : Cond.methodLink own index objectInit ∈ lw_all) (hfr : 1 ≤ R.frames) (hsum : (st.map fun v => v.category).sum ≤ 8) (hlo : 20 ≤ R.locals) (d : decode cc pc = .ok (.invokespecial index, 3)) (kk : sv_V Γ X k n (pc + 3) lv st) : sv_V Γ X k n pc lv (.ref a :: st) := fun H locs ls hP hD hS hl =>
  W.objInit hC.x hC.b hC.ow (hC.ts _ hq) (hC.ts _ q91) (hC.ts _ q92) rfl (by show ls.size = _; rw [hC.ml, ← hC.nl]; exact hl.1) rfl d (by rw [hC.Rm]; exact hfr) (by rw [hC.Rm]; show 2 * 0 + _ + 12 ≤ _; omega) (kk H locs ls hP hD hS hl)
/-- a nest mate's constructor -/
theorem sv_callIN (hC : sv_C Γ cc nL own ret R) {index nn : Nat} {host : String} {y : MethodName} {bb : ByteArray} {L : Nat} {rm : Room} {b : Nat} {As rest : List Value} {post : Option Value → va_W → Prop} {Xc Xr : va_W} (isC isR : List Nat) (hXc : isC.map (fun i => X[i]?) = Xc.map some) (hXr : isR.map (fun i => X[i]?) = Xr.map some) (hnC : va_nd isC = true) (hnR : va_nd isR = true) (hdis : ∀ i ∈ isR, i ∉ isC)
    (hM : sv_M (sg_l Γ) (sg_s0 Γ) (sg_D Γ) y bb L none rm (.ref b :: As) Xc post) (hG : GoodIn lw_all (ws_ y bb L none)) (hini : Cond.initialized y.cls ∈ lw_all) (hlk : Cond.methodLinkNest own index y host ∈ lw_tbl) (him : Cond.instanceMethod y ∈ lw_all) (hy : y.name = "<init>")
    (hd : y.cls ≠ "java/lang/invoke/MethodHandle" ∧ y.cls ≠ "java/lang/invoke/VarHandle" ∧ (parseMethodDescriptor y.desc).map (fun d => d.parameters.length) = some nn) (hR : rm.frames + 1 ≤ R.frames ∧ 8 + (L + 11) + rm.locals ≤ R.locals) (hn : As.length = nn) {st0 : List Value} (hst : st0 = As.reverse ++ .ref b :: rest) (hW : (rest.map fun v => v.category).sum ≤ 8) (hf : k + rm.cells ≤ R.cells ∧ n + rm.slots ≤ R.slots) (d : decode cc pc = .ok (.invokespecial index, 3))
    (kk : ∀ (v : Option Value) (X' : va_W), post v X' → sv_V Γ (Xr ++ X') (k + rm.cells) (n + rm.slots) (pc + 3) lv (v.toList ++ rest)) : sv_V Γ X k n pc lv st0 := fun H locs ls hP hD hS hl => by
  subst hst
  refine sv_after isC isR hXc hXr hnR hdis hC.hA hP hD hS hl (va_runIN (b := b) (As := As) (host := host) ⟨hC.x, hC.b, hC.ml, hC.ow, hC.ts⟩ (hM H.size) (by rw [hC.Rm]; exact ⟨va_cnB nn hC.ts hG rfl rfl rfl (hC.nwM hlk) (hC.ts _ hini) hd hR, hy, hC.ts _ him⟩) ⟨sv_blind, sv_pre hC isC hXc hnC hP hD hS⟩ rfl hn (by rw [← hC.nl]; exact hl.1) rfl (lv_room hW) d (by rw [hC.Rm]; exact hf)) kk
theorem sv_wd {X' : va_W} (h : X = X') (kk : sv_V Γ X' k n pc lv st) : sv_V Γ X k n pc lv st := h ▸ kk
end SN
/-- an end without an answer, the world as P says -/
def sv_pX (P : va_W → Prop) : Option Value → va_W → Prop := fun v W => v = none ∧ P W
theorem fm_at {q N : Nat} {cA : ClassId} {len : Nat} {F : Nat → Nat → Int32} {j : Nat} (hj : j < N) : (fm q N cA len F)[j]? = some (q + j, .inl (cA, len, .inl (F j))) := by
  unfold fm
  rw [List.getElem?_map, List.getElem?_range hj]
  rfl
theorem fm_len {q N : Nat} {cA : ClassId} {len : Nat} {F : Nat → Nat → Int32} : (fm q N cA len F).length = N := by simp [fm]
theorem fm_set {q N : Nat} {cA : ClassId} {len : Nat} {F : Nat → Nat → Int32} {j : Nat} {f : Nat → Int32} (hj : j < N) : (fm q N cA len F).set j (q + j, .inl (cA, len, .inl f)) = fm q N cA len (fun i => if i = j then f else F i) := by
  unfold fm
  apply List.ext_getElem?
  intro i
  by_cases hi : i = j
  · subst hi
    rw [List.getElem?_set_self (by simpa using hj), List.getElem?_map, List.getElem?_range hj]
    show _ = some (q + i, Sum.inl (cA, len, Sum.inl (if i = i then f else F i)))
    rw [if_pos rfl]
  · rw [List.getElem?_set_ne (Ne.symm hi), List.getElem?_map, List.getElem?_map]
    by_cases h2 : i < N
    · rw [List.getElem?_range h2]
      show some (q + i, Sum.inl (cA, len, Sum.inl (F i))) = some (q + i, Sum.inl (cA, len, Sum.inl (if i = j then f else F i)))
      rw [if_neg hi]
    · rw [List.getElem?_eq_none (by simpa using h2)]
      rfl
