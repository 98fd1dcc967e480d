/-! told things: the pool grows; boxes out of the cache; tell -/
set_option maxRecDepth 100000
abbrev zL (z : XZ) : List Nat := z.2.2.2.2.2.2.2.1
abbrev zp (z : XZ) : Nat → va_E := z.2.2.2.2.2.2.2.2
/-- the statics of the Integer cache at the law's start -/
def SI (s0 : State) (ic : Nat → Nat) : Prop := va_Z "java/lang/Integer$IntegerCache" "high" "I" (.int 127) (fun q => s0.heap.size ≤ q) s0 s0.heap ∧ ∃ tc : Nat, va_Z "java/lang/Integer$IntegerCache" "cache" "[Ljava/lang/Integer;" (.ref tc) (fun q => s0.heap.size ≤ q) s0 s0.heap ∧ va_T (.object "java/lang/Integer") tc 256 (fun j => .ref (ic j)) (fun q => s0.heap.size ≤ q) s0 s0.heap
/-- the pool with one object more -/
def zpush (z : XZ) (q : Nat) (e : va_E) : XZ := (z.1, z.2.1, z.2.2.1, z.2.2.2.1, z.2.2.2.2.1, z.2.2.2.2.2.1, z.2.2.2.2.2.2.1, zL z ++ [q], va_up (zp z) q e)
def zfa (z : XZ) (j q : Nat) : XZ := (z.1, z.2.1, va_up z.2.2.1 j q, z.2.2.2)
def zca (z : XZ) (j q : Nat) : XZ := (z.1, z.2.1, z.2.2.1, va_up z.2.2.2.1 j q, z.2.2.2.2)
theorem xe_push {dA : Nat → ClassId} {z : XZ} {K : XK} {σ : MSt} {q : Nat} {e : va_E} (k : Nat) : xe dA (zpush z q e) K σ k = xe dA z K σ k := by
  match k with
  | 0 | 1 | 2 | 3 | 4 | 5 | 6 | 7 | 8 | 9 | 10 | 11 | 12 | 13 | 14 | 15 | 16 | 17 | 18 | 19 => rfl
  | k + 20 => rfl
theorem SP.push {s0 : State} {dA : Nat → ClassId} {z : XZ} {K : XK} {q : Nat} {e : va_E} (hz : SP s0 dA z K) (hq : q ∉ zL z) : SP s0 dA (zpush z q e) K := by
  have hk : ∀ a : Nat, a ∈ zL z → a ∈ zL z ++ [q] ∧ va_up (zp z) q e a = zp z a := fun a ha => ⟨List.mem_append_left _ ha, by unfold va_up; exact if_neg (fun h : a = q => hq (by rw [← h]; exact ha))⟩
  obtain ⟨h1, h2, h3, h4, h5, h6, h7⟩ := hz
  refine ⟨fun j v h => ?_, h2, fun j v h => ?_, h4, fun j v h => ?_, fun h => ?_, h7⟩
  · obtain ⟨a, b⟩ := h1 j v h
    exact ⟨(hk _ a).1, (hk _ a).2.trans b⟩
  · obtain ⟨a, b⟩ := h3 j v h
    exact ⟨(hk _ a).1, (hk _ a).2.trans b⟩
  · obtain ⟨a, b⟩ := h5 j v h
    exact ⟨(hk _ a).1, (hk _ a).2.trans b⟩
  · obtain ⟨a, en, g, b, c⟩ := h6 h
    exact ⟨(hk _ a).1, en, g, (hk _ a).2.trans b, c⟩
section ST
variable {Γ : sv_G} {cc : ByteArray} {nL : Nat} {own : String} {ret : Option FieldType} {R : Room} {X : va_W} {k n pc : Nat} {lv : List (Nat × Value)} {st : List Value} {z : XZ} {K : XK} {σ : MSt}
theorem sv_pool {A B Y : va_W} {L : List Nat} {f : Nat → va_E} {q : Nat} {e : va_E} (kk : q ∉ L → sv_V Γ ((A ++ va_pl (L ++ [q]) (va_up f q e)) ++ Y) k n pc lv st) : sv_V Γ (((A ++ va_pl L f) ++ Y) ++ [(q, e)]) k n pc lv st := fun H locs ls hP hD hS hl => by
  have hq : q ∉ L := fun hm => by
    have hn := hD.nodup
    rw [List.map_append, List.nodup_append] at hn
    refine hn.2.2 q ?_ q (by simp) rfl
    rw [List.map_append, List.map_append]
    exact List.mem_append_left _ (List.mem_append_right _ (List.mem_map.mpr ⟨(q, f q), List.mem_map.mpr ⟨q, hm, rfl⟩, rfl⟩))
  have hp : (((A ++ va_pl L f) ++ Y) ++ [(q, e)]).Perm ((A ++ va_pl (L ++ [q]) (va_up f q e)) ++ Y) := by
    rw [← va_pl_push hq]
    simp only [List.append_assoc]
    exact List.Perm.append_left _ (List.Perm.append_left _ List.perm_append_comm)
  exact kk hq H locs ls (hP.perm hp) (hD.perm hp) hS hl
theorem sx_absorb {Y : va_W} {q : Nat} {e : va_E} (kk : q ∉ zL z → sv_V Γ (SW (sg_dA Γ) (zpush z q e) K σ ++ Y) k n pc lv st) : sv_V Γ ((SW (sg_dA Γ) z K σ ++ Y) ++ [(q, e)]) k n pc lv st := by
  refine sv_pool (B := []) (fun hq => ?_)
  have h := kk hq
  unfold SW at h
  simp only [xe_push] at h
  exact h
theorem sv_astq (hC : sv_C Γ cc nL own ret R) (q0 t0 qk ci : Nat) {a : Nat} {cA : ClassId} {r : vw_C} {nn v : Nat} {vs : List Value} {f : Nat → Option Nat} (ha : X[q0]? = some (a, .inl (cA, nn, xq f))) (ht : (sv_ty (sg_dA Γ))[t0]? = some (cA, .object r.1)) (hv : X[qk]? = some (v, .inr (ci, vs))) (hc : sv_cl[ci]? = some r) {i : Int32} {j : Nat} (hj : sv_ix i nn = some j) {X' : va_W} (hX : X.set q0 (a, .inl (cA, nn, xq (va_up f j (some v)))) = X') (d : decode cc pc = .ok (.aastore, 1)) (kk : sv_V Γ X' k n (pc + 1) lv st) : sv_V Γ X k n pc lv (.ref v :: .int i :: .ref a :: st) := fun H locs ls hP hD hS hl =>
  va_astq hC.x hC.b hC.K hP hD hS q0 t0 qk ci ha ht hv hc (sv_ix_in hj).1 d (by rw [(sv_ix_in hj).2, hX]; exact fun H1 locs1 hP1 hD1 hS1 => kk H1 locs1 ls hP1 hD1 hS1 hl)
theorem sv_astN (hC : sv_C Γ cc nL own ret R) (q0 t0 : Nat) {a : Nat} {cA : ClassId} {C : String} {nn : Nat} {f : Nat → Option Nat} (ha : X[q0]? = some (a, .inl (cA, nn, xq f))) (ht : (sv_ty (sg_dA Γ))[t0]? = some (cA, .object C)) {i : Int32} {j : Nat} (hj : sv_ix i nn = some j) {X' : va_W} (hX : X.set q0 (a, .inl (cA, nn, xq (va_up f j none))) = X') (d : decode cc pc = .ok (.aastore, 1)) (kk : sv_V Γ X' k n (pc + 1) lv st) : sv_V Γ X k n pc lv (.null :: .int i :: .ref a :: st) := fun H locs ls hP hD hS hl =>
  va_astqN hC.x hC.b hC.K hP hD hS q0 t0 ha ht (sv_ix_in hj).1 d (by rw [(sv_ix_in hj).2, hX]; exact fun H1 locs1 hP1 hD1 hS1 => kk H1 locs1 ls hP1 hD1 hS1 hl)
theorem sv_astB (hC : sv_C Γ cc nL own ret R) {ic : Nat → Nat} (hB : vb_C ic (fun q => (sg_s0 Γ).heap.size ≤ q) (sg_s0 Γ) (sg_s0 Γ).heap) {b : Nat} (hb : b < 256) (q0 t0 : Nat) {a : Nat} {cA : ClassId} {nn : Nat} {f : Nat → Option Nat} (ha : X[q0]? = some (a, .inl (cA, nn, xq f))) (ht : (sv_ty (sg_dA Γ))[t0]? = some (cA, .object "java/lang/Integer")) {i : Int32} {j : Nat} (hj : sv_ix i nn = some j) {X' : va_W} (hX : X.set q0 (a, .inl (cA, nn, xq (va_up f j (some (ic b))))) = X') (d : decode cc pc = .ok (.aastore, 1)) (kk : sv_V Γ X' k n (pc + 1) lv st) : sv_V Γ X k n pc lv (.ref (ic b) :: .int i :: .ref a :: st) := fun H locs ls hP hD hS hl =>
  vb_astq (C := "java/lang/Integer") hC.x hC.b hC.K hP hD hS q0 t0 ha ht (by
    obtain ⟨cell, h1, h2, h3, -⟩ := ((sv_Bx hC hB).1 b hb).kept hS.2.1
    exact ⟨cell, h1, h2, h3⟩) (fun comp c0 h1 h2 => vb_asgS comp c0 h1 h2) (sv_ix_in hj).1 d (by rw [(sv_ix_in hj).2, hX]; exact fun H1 locs1 hP1 hD1 hS1 => kk H1 locs1 ls hP1 hD1 hS1 hl)
theorem sv_Tx (hC : sv_C Γ cc nL own ret R) {ty : FieldType} {t N : Nat} {f : Nat → Value} (hT : va_T ty t N f (fun q => (sg_s0 Γ).heap.size ≤ q) (sg_s0 Γ) (sg_s0 Γ).heap) : va_T ty t N f (sg_A Γ) (sg_s Γ) (sg_s Γ).heap :=
  ((hT.moved hC.E.1.alike).kept (fun a h1 _ => hC.E.2.2 a h1)).narrow (fun q h => hC.lo q h)
theorem sv_tq (hC : sv_C Γ cc nL own ret R) {C : String} {t N : Nat} {f : Nat → Value} (hT : va_T (.object C) t N f (fun q => (sg_s0 Γ).heap.size ≤ q) (sg_s0 Γ) (sg_s0 Γ).heap) {i : Int32} {j : Nat} (hj : sv_ix i N = some j) {v : Value} (hv : f j = v) (d : decode cc pc = .ok (.aaload, 1)) (kk : sv_V Γ X k n (pc + 1) lv (v :: st)) : sv_V Γ X k n pc lv (.int i :: .ref t :: st) := fun H locs ls hP hD hS hl =>
  vb_tq hC.x hC.b (sv_Tx hC hT) hS (sv_ix_in hj).1 (by rw [(sv_ix_in hj).2]; exact hv) d (kk H locs ls hP hD hS hl)
/-- a static call that needs nothing of the world and answers a reference -/
theorem sv_pSa (hC : sv_C Γ cc nL own ret R) {index nn : Nat} {y : MethodName} {bb : ByteArray} {L : Nat} {rt : Option FieldType} {rm : Room} {As rest : List Value} {r : Nat}
    (hM : sv_M (sg_l Γ) (sg_s0 Γ) (sg_D Γ) y bb L rt rm As [] (sv_pA r [])) (hG : GoodIn lw_all (va_wsS own index y (ws_ y bb L rt)))
    (hd : y.cls ≠ "java/lang/invoke/MethodHandle" ∧ y.cls ≠ "java/lang/invoke/VarHandle" ∧ (parseMethodDescriptor y.desc).map (fun d => d.parameters.length) = some nn) (hR : rm.frames + 1 ≤ R.frames ∧ 8 + (L + 11) + rm.locals ≤ R.locals) (hz : rm.cells = 0 ∧ rm.slots = 0) (hn : As.length = nn) {st0 : List Value} (hst : st0 = As.reverse ++ rest) (hW : (rest.map fun v => v.category).sum ≤ 8) (hf : k ≤ R.cells ∧ n ≤ R.slots) (d : decode cc pc = .ok (.invokestatic index, 3))
    (kk : sv_V Γ X k n (pc + 3) lv (.ref r :: rest)) : sv_V Γ X k n pc lv st0 :=
  sv_pS hC hM hG hd hR hn hst hW (by rw [hz.1, hz.2]; exact hf) d (by rw [hz.1, hz.2]; exact kk)
end ST
theorem xb_spec {v : Int32} (h1 : ¬ v < -128) (h2 : ¬ 127 < v) : xb v < 256 ∧ vb_c (xb v) = v ∧ v + 128 = nI (xb v) := by
  obtain ⟨j, h, e1, e2⟩ := bx_small h1 h2
  have hx : xb v = j := by unfold xb; rw [e1, nI_clamp (by omega)]
  rw [hx]
  exact ⟨h, e2.symm, e1⟩
theorem met_valueOf {l : Launch} {s0 : State} {D : va_G} {dA : Nat → ClassId} (hF : sv_F s0 D dA) {ic : Nat → Nat} (hI : SI s0 ic) {v : Int32} (h1 : ¬ v < -128) (h2 : ¬ 127 < v) : sv_M l s0 D yJ15_valueOf cJ15_valueOf 1 (some (.object "java/lang/Integer")) rm_0 [.int v] [] (sv_pA (ic (xb v)) []) :=
  sv_met hF (by decide) (Nat.le_of_ble_eq_true rfl) (fun Γ hC hQ hmn e1 e2 e3 e4 => by
    subst e1 e2 e3 e4
    obtain ⟨hI1, tc, hI2, hI3⟩ := hI
    obtain ⟨g1, g2, g3⟩ := xb_spec h1 h2
    refine sv_iload_n hC dJ15_valueOf_0 0 rfl rfl ?_
    refine sv_bipush hC (v := (-128)) dJ15_valueOf_1 (by decide) ?_
    refine sv_icmp_lt hC (tgt := 23) dJ15_valueOf_3 (by decide) (fun c => absurd c h1) (fun c => ?_)
    refine sv_iload_n hC dJ15_valueOf_6 0 rfl rfl ?_
    refine sv_gets hC hI1 q710 rfl dJ15_valueOf_7 ?_
    refine sv_icmp_gt hC (tgt := 23) dJ15_valueOf_10 (by decide) (fun c => absurd c h2) (fun c => ?_)
    refine sv_gets hC hI2 q712 rfl dJ15_valueOf_13 ?_
    refine sv_iload_n hC dJ15_valueOf_16 0 rfl rfl ?_
    refine sv_sipush hC (v := 128) dJ15_valueOf_17 (by decide) ?_
    refine sv_iadd hC dJ15_valueOf_20 ?_
    refine sv_tq hC hI3 (j := xb v) (by rw [g3]; unfold sv_ix; rw [if_neg (nI_pos (by omega)), nI_clamp (by omega), if_pos g1]) rfl dJ15_valueOf_21 ?_
    exact sv_aret hC hQ dJ15_valueOf_22 (Or.inl ⟨_, rfl⟩) (Or.inr ⟨_, rfl⟩) ⟨rfl, rfl⟩)
/-- what a line that is done tells -/
def xt_tell (g : Nat → Int32) (K : XK) (σ : MSt) : Option (XK × MSt) :=
  if g 0 = 0 then (sv_ix (g 1) 4).bind fun j => some ((fun i => if i = j then some (g 2, g 3, g 4) else K.1 i, K.2), σ)
  else if g 0 = 1 then (sv_ix (g 1) 4).bind fun j => if g 2 < -128 then none else if 127 < g 2 then none else some ((K.1, fun i => if i = j then some (g 2) else K.2.1 i, K.2.2), σ)
  else if g 0 = 2 then (sv_ix (g 1) 4).bind fun j => some ((K.1, K.2.1, fun i => if i = j then some (g 2, g 3) else K.2.2.1 i, K.2.2.2), σ)
  else if g 0 = 3 then some (K, ms_s σ 4 (g 1))
  else if g 0 = 4 then some (K, ms_s σ 5 (g 1))
  else if g 0 = 5 then some (K, ms_s σ 6 (g 1))
  else if g 0 = 6 then some (K, ms_s σ 7 (g 1))
  else (sv_ix (g 1) 4).bind fun j => some ((fun i => if i = j then none else K.1 i, K.2), σ)
section SU
variable {dA : Nat → ClassId} {z : XZ} {K : XK} {σ : MSt} {s0 : State}
theorem sx_setK {z' : XZ} {K' : XK} {σ' : MSt} {k : Nat} {e : va_E} {Y : va_W} (hk : k < 129) (hz1 : z'.1 = z.1) (hL : zL z' = zL z) (hp : zp z' = zp z) (h : ∀ j : Nat, j ≠ k → xe dA z K σ j = xe dA z' K' σ' j) (he : xe dA z' K' σ' k = e) : (SW dA z K σ ++ Y).set k (z.1 k, e) = SW dA z' K' σ' ++ Y := by
  have e1 : ((List.range 129).map (fun k => (z.1 k, xe dA z K σ k))).set k (z.1 k, e) = (List.range 129).map (fun k => (z'.1 k, xe dA z' K' σ' k)) := by
    apply List.ext_getElem?
    intro i
    by_cases hi : i = k
    · subst hi
      rw [List.getElem?_set_self (by simpa using hk), List.getElem?_map, List.getElem?_range hk, ← he, hz1]
      rfl
    · rw [List.getElem?_set_ne (Ne.symm hi), List.getElem?_map, List.getElem?_map]
      by_cases h2 : i < 129
      · rw [List.getElem?_range h2]
        show some (z.1 i, xe dA z K σ i) = some (z'.1 i, xe dA z' K' σ' i)
        rw [h i hi, hz1]
      · rw [List.getElem?_eq_none (by simpa using h2)]
        rfl
  unfold SW
  rw [List.append_assoc, List.set_append_left _ _ (by simpa using hk), e1, List.append_assoc]
  have e2 : va_pl (zL z) (zp z) = va_pl (zL z') (zp z') := by rw [hL, hp]
  rw [e2]
theorem xe_n1 {z' : XZ} {K' : XK} {σ' : MSt} (h1 : z'.1 = z.1) (h2 : z'.2.1 = z.2.1) (h3 : z'.2.2.2 = z.2.2.2) (h4 : K'.2 = K.2) (h5 : σ' = σ) : ∀ j : Nat, j ≠ 1 → xe dA z K σ j = xe dA z' K' σ' j := by
  intro j hj
  subst h5
  obtain ⟨z1, z2, z3, z4⟩ := z
  obtain ⟨y1, y2, y3, y4⟩ := z'
  obtain ⟨K1, K2⟩ := K
  obtain ⟨J1, J2⟩ := K'
  simp only at h1 h2 h3 h4
  subst h1 h2 h3 h4
  match j with
  | 1 => exact absurd rfl hj
  | 0 | 2 | 3 | 4 | 5 | 6 | 7 | 8 | 9 | 10 | 11 | 12 | 13 | 14 | 15 | 16 | 17 | 18 | 19 => rfl
  | k + 20 => rfl
theorem xe_n2 {K' : XK} (h1 : K'.1 = K.1) (h4 : K'.2.2 = K.2.2) : ∀ j : Nat, j ≠ 2 → xe dA z K σ j = xe dA z K' σ j := by
  intro j hj
  obtain ⟨K1, K2, K3⟩ := K
  obtain ⟨J1, J2, J3⟩ := K'
  simp only at h1 h4
  subst h1 h4
  match j with
  | 2 => exact absurd rfl hj
  | 0 | 1 | 3 | 4 | 5 | 6 | 7 | 8 | 9 | 10 | 11 | 12 | 13 | 14 | 15 | 16 | 17 | 18 | 19 => rfl
  | k + 20 => rfl
theorem xe_n3 {z' : XZ} {K' : XK} (h1 : z'.1 = z.1) (h2 : z'.2.1 = z.2.1) (h3 : z'.2.2.1 = z.2.2.1) (h6 : z'.2.2.2.2 = z.2.2.2.2) (h4 : K'.1 = K.1) (h5 : K'.2.1 = K.2.1) (h7 : K'.2.2.2 = K.2.2.2) : ∀ j : Nat, j ≠ 3 → xe dA z K σ j = xe dA z' K' σ j := by
  intro j hj
  obtain ⟨z1, z2, z3, z4, z5⟩ := z
  obtain ⟨y1, y2, y3, y4, y5⟩ := z'
  obtain ⟨K1, K2, K3, K4⟩ := K
  obtain ⟨J1, J2, J3, J4⟩ := K'
  simp only at h1 h2 h3 h4 h5 h6 h7
  subst h1 h2 h3 h4 h5 h6 h7
  match j with
  | 3 => exact absurd rfl hj
  | 0 | 1 | 2 | 4 | 5 | 6 | 7 | 8 | 9 | 10 | 11 | 12 | 13 | 14 | 15 | 16 | 17 | 18 | 19 => rfl
  | k + 20 => rfl
theorem sx_atY {Y : va_W} {k : Nat} (hk : k < 129) : (SW dA z K σ ++ Y)[k]? = some (z.1 k, xe dA z K σ k) := by
  have hl : k < (SW dA z K σ).length := (List.getElem?_eq_some_iff.mp (sx_at (dA := dA) (z := z) (K := K) (σ := σ) hk)).1
  rw [List.getElem?_append_left hl]
  exact sx_at hk
theorem sx_poolY {Y : va_W} {a : Nat} (h : a ∈ zL z) : ∃ k : Nat, (SW dA z K σ ++ Y)[k]? = some (a, zp z a) := by
  obtain ⟨k, hk⟩ := sx_pool (dA := dA) (K := K) (σ := σ) h
  exact ⟨k, by rw [List.getElem?_append_left (List.getElem?_eq_some_iff.mp hk).1]; exact hk⟩
theorem sx_tailY {c : Nat × va_E} {Y : va_W} : (SW dA z K σ ++ (c :: Y))[(SW dA z K σ).length]? = some c := by
  rw [List.getElem?_append_right (Nat.le_refl _), Nat.sub_self]
  rfl
end SU
