/-! tell (printed by gen_tell.py) -/
set_option maxRecDepth 100000
theorem SP.fld {s0 : State} {dA : Nat → ClassId} {z : XZ} {K : XK} {j q : Nat} {v : Int32 × Int32 × Int32} (hz : SP s0 dA z K) (hm : q ∈ zL z) (he : zp z q = .inr (13, [.int v.1, .int v.2.1, .int v.2.2])) : SP s0 dA (zfa z j q) (fun i => if i = j then some v else K.1 i, K.2) := by
  obtain ⟨h1, h2, h3, h4, h5, h6, h7⟩ := hz
  refine ⟨fun i w h => ?_, h2, h3, h4, h5, h6, h7⟩
  by_cases e : i = j
  · subst e
    have h : (if i = i then some v else K.1 i) = some w := h
    rw [if_pos rfl] at h
    cases h
    show (if i = i then q else z.2.2.1 i) ∈ zL z ∧ zp z (if i = i then q else z.2.2.1 i) = _
    rw [if_pos rfl]
    exact ⟨hm, he⟩
  · have h : (if i = j then some v else K.1 i) = some w := h
    rw [if_neg e] at h
    show (if i = j then q else z.2.2.1 i) ∈ zL z ∧ zp z (if i = j then q else z.2.2.1 i) = _
    rw [if_neg e]
    exact h1 i w h
theorem SP.cot {s0 : State} {dA : Nat → ClassId} {z : XZ} {K : XK} {j q : Nat} {v : Int32 × Int32} (hz : SP s0 dA z K) (hm : q ∈ zL z) (he : zp z q = .inr (2, [.int v.1, .int v.2])) : SP s0 dA (zca z j q) (K.1, K.2.1, fun i => if i = j then some v else K.2.2.1 i, K.2.2.2) := by
  obtain ⟨h1, h2, h3, h4, h5, h6, h7⟩ := hz
  refine ⟨h1, h2, fun i w h => ?_, h4, h5, h6, h7⟩
  by_cases e : i = j
  · subst e
    have h : (if i = i then some v else K.2.2.1 i) = some w := h
    rw [if_pos rfl] at h
    cases h
    show (if i = i then q else z.2.2.2.1 i) ∈ zL z ∧ zp z (if i = i then q else z.2.2.2.1 i) = _
    rw [if_pos rfl]
    exact ⟨hm, he⟩
  · have h : (if i = j then some v else K.2.2.1 i) = some w := h
    rw [if_neg e] at h
    show (if i = j then q else z.2.2.2.1 i) ∈ zL z ∧ zp z (if i = j then q else z.2.2.2.1 i) = _
    rw [if_neg e]
    exact h3 i w h
theorem SP.flk {s0 : State} {dA : Nat → ClassId} {z : XZ} {K : XK} {j : Nat} {v : Int32} (hz : SP s0 dA z K) (hv : xb v < 256 ∧ vb_c (xb v) = v) : SP s0 dA z (K.1, fun i => if i = j then some v else K.2.1 i, K.2.2) := by
  obtain ⟨h1, h2, h3, h4, h5, h6, h7⟩ := hz
  refine ⟨h1, fun i w h => ?_, h3, h4, h5, h6, h7⟩
  by_cases e : i = j
  · have h : (if i = j then some v else K.2.1 i) = some w := h
    rw [if_pos e] at h
    cases h
    exact hv
  · have h : (if i = j then some v else K.2.1 i) = some w := h
    rw [if_neg e] at h
    exact h2 i w h
theorem SP.fno {s0 : State} {dA : Nat → ClassId} {z : XZ} {K : XK} {j : Nat} (hz : SP s0 dA z K) : SP s0 dA z (fun i => if i = j then none else K.1 i, K.2) := by
  obtain ⟨h1, h2, h3, h4, h5, h6, h7⟩ := hz
  refine ⟨fun i w h => ?_, h2, h3, h4, h5, h6, h7⟩
  have h : (if i = j then none else K.1 i) = some w := h
  by_cases e : i = j
  · rw [if_pos e] at h; cases h
  · rw [if_neg e] at h; exact h1 i w h
abbrev rm_X0_tell : Room := { frames := 2, cells := 1, slots := 3, locals := 60 }
/-- what stays of the addresses -/
def zsame (z z' : XZ) : Prop := z'.1 = z.1 ∧ z'.2.1 = z.2.1
def pt_tell (s0 : State) (dA : Nat → ClassId) (z : XZ) (la : Nat) (g : Nat → Int32) (K' : XK) (σ' : MSt) : va_W → Prop := fun W => ∃ z' : XZ, SP s0 dA z' K' ∧ zsame z z' ∧ W = SW dA z' K' σ' ++ [(la, .inl (dA 0, 5, .inl g))]
set_option maxHeartbeats 4000000 in
theorem met_tell {l : Launch} {s0 : State} {D : va_G} {dA : Nat → ClassId} (hF : sv_F s0 D dA) (z : XZ) (K : XK) (hz : SP s0 dA z K) (hI : SI s0 z.2.1) (σ : MSt) (la : Nat) (g : Nat → Int32) {K' : XK} {σ' : MSt} (h : xt_tell g K σ = some (K', σ')) : sv_M l s0 D yX0_tell cX0_tell 2 none rm_X0_tell [.ref (z.1 0), .ref la] (SW dA z K σ ++ [(la, .inl (dA 0, 5, .inl g))]) (sv_pX (pt_tell s0 dA z la g K' σ')) :=
  sv_met hF (by decide) (Nat.le_of_ble_eq_true rfl) (fun Γ hC hQ hmn e1 e2 e3 e4 => by
    subst e1 e2 e3 e4
    have hit : (SW (sg_dA Γ) z K σ ++ [(la, .inl (sg_dA Γ 0, 5, .inl g))])[(SW (sg_dA Γ) z K σ).length]? = some (la, .inl (sg_dA Γ 0, 5, .inl g)) := sx_tailY
    unfold xt_tell at h
    refine sv_aload_n hC dX0_tell_0 1 rfl rfl ?_
    refine sv_iconst hC (v := 0) dX0_tell_1 (by decide) ?_
    refine sv_iald hC ((SW (sg_dA Γ) z K σ).length) (f := g) hit rfl (j := 0) (by decide) dX0_tell_2 ?_
    by_cases c0 : g 0 = 0
    · have h := sv_it c0 h
      refine sv_tabIn hC (tgt := 44) dX0_tell_3 0 c0 (by decide) (by decide) rfl (by decide) ?_
      obtain ⟨j, ej, h⟩ := sv_ob h
      cases h
      refine sv_aload_n hC dX0_tell_44 0 rfl rfl ?_
      refine sv_get hC in_X0 0 (sx_atY (by decide)) rfl 0 (by decide) q222 rfl (v := .ref (z.1 1)) rfl dX0_tell_45 ?_
      refine sv_aload_n hC dX0_tell_48 1 rfl rfl ?_
      refine sv_iconst hC (v := 1) dX0_tell_49 (by decide) ?_
      refine sv_iald hC ((SW (sg_dA Γ) z K σ).length) (f := g) hit rfl (j := 1) (by decide) dX0_tell_50 ?_
      refine sv_newC (ci := 13) (fs := [.int 0, .int 0, .int 0]) hC in_X9 tyX9 tyX9_ok q93 q687 q81 rfl (fun j hj => by rcases (show j = 0 ∨ j = 1 ∨ j = 2 by omega) with rfl | rfl | rfl <;> rfl) (Nat.le_of_ble_eq_true rfl) (Nat.le_of_ble_eq_true rfl) dX0_tell_51 (fun q => ?_)
      refine sv_dup hC dX0_tell_54 rfl ?_
      refine sv_aload_n hC dX0_tell_55 1 rfl rfl ?_
      refine sv_iconst hC (v := 2) dX0_tell_56 (by decide) ?_
      refine sv_iald hC ((SW (sg_dA Γ) z K σ).length + 1) (f := g) (by rw [List.getElem?_cons_succ]; exact hit) rfl (j := 2) (by decide) dX0_tell_57 ?_
      refine sv_aload_n hC dX0_tell_58 1 rfl rfl ?_
      refine sv_iconst hC (v := 3) dX0_tell_59 (by decide) ?_
      refine sv_iald hC ((SW (sg_dA Γ) z K σ).length + 1) (f := g) (by rw [List.getElem?_cons_succ]; exact hit) rfl (j := 3) (by decide) dX0_tell_60 ?_
      refine sv_aload_n hC dX0_tell_61 1 rfl rfl ?_
      refine sv_iconst hC (v := 4) dX0_tell_62 (by decide) ?_
      refine sv_iald hC ((SW (sg_dA Γ) z K σ).length + 1) (f := g) (by rw [List.getElem?_cons_succ]; exact hit) rfl (j := 4) (by decide) dX0_tell_63 ?_
      refine sv_ci (nn := 3) hC (mi_Field hC.F q (g 2) (g 3) (g 4) (.int 0) (.int 0) (.int 0)) (lw_meth q690) q81 q688 q689 rfl (by decide +kernel) ⟨by decide, by decide⟩ rfl rfl (Nat.le_of_ble_eq_true rfl) ⟨(Nat.le_of_ble_eq_true rfl), (Nat.le_of_ble_eq_true rfl)⟩ dX0_tell_64 (fun v W hp => ?_)
      obtain ⟨rfl, rfl⟩ := hp
      refine sx_absorb (fun hq => ?_)
      have hz1 : SP (sg_s0 Γ) (sg_dA Γ) (zpush z q (.inr (13, [.int (g 2), .int (g 3), .int (g 4)]))) K := hz.push hq
      have hm : q ∈ zL (zpush z q (.inr (13, [.int (g 2), .int (g 3), .int (g 4)]))) := List.mem_append_right _ List.mem_cons_self
      have hp1 : zp (zpush z q (.inr (13, [.int (g 2), .int (g 3), .int (g 4)]))) q = .inr (13, [.int (g 2), .int (g 3), .int (g 4)]) := if_pos rfl
      obtain ⟨pp, hpp⟩ := sx_poolY (dA := sg_dA Γ) (K := K) (σ := σ) (Y := [(la, .inl (sg_dA Γ 0, 5, .inl g))]) hm
      rw [hp1] at hpp
      refine sv_astq hC 1 3 pp 13 (sx_atY (by decide)) rfl hpp rfl (j := j) ej (X' := SW (sg_dA Γ) (zfa (zpush z q (.inr (13, [.int (g 2), .int (g 3), .int (g 4)]))) j q) (fun i => if i = j then some (g 2, g 3, g 4) else K.1 i, K.2) σ ++ [(la, .inl (sg_dA Γ 0, 5, .inl g))]) ?_ dX0_tell_67 ?_
      · refine sx_setK (by decide) rfl rfl rfl (xe_n1 rfl rfl rfl rfl rfl) ?_
        show Sum.inl (sg_dA Γ 3, 4, xq _) = Sum.inl (sg_dA Γ 3, 4, xq _)
        congr 3
        congr 1
        congr 1
        congr 1
        congr 1
        funext i
        by_cases e : i = j
        · subst e; simp [zfa, va_up]
        · simp [zfa, va_up, e, zpush]
      refine sv_goto hC (tgt := 161) dX0_tell_68 (by decide) ?_
      exact sv_vret hC hQ dX0_tell_161 ⟨rfl, zfa (zpush z q (.inr (13, [.int (g 2), .int (g 3), .int (g 4)]))) j q, hz1.fld (v := (g 2, g 3, g 4)) hm hp1, ⟨rfl, rfl⟩, rfl⟩
    · have h := sv_if c0 h
      by_cases c1 : g 0 = 1
      · have h := sv_it c1 h
        refine sv_tabIn hC (tgt := 71) dX0_tell_3 1 c1 (by decide) (by decide) rfl (by decide) ?_
        obtain ⟨j, ej, h⟩ := sv_ob h
        obtain ⟨b1, h⟩ := sv_gn h
        obtain ⟨b2, h⟩ := sv_gn h
        cases h
        obtain ⟨g1, g2, -⟩ := xb_spec b1 b2
        refine sv_aload_n hC dX0_tell_71 0 rfl rfl ?_
        refine sv_get hC in_X0 0 (sx_atY (by decide)) rfl 1 (by decide) q224 rfl (v := .ref (z.1 2)) rfl dX0_tell_72 ?_
        refine sv_aload_n hC dX0_tell_75 1 rfl rfl ?_
        refine sv_iconst hC (v := 1) dX0_tell_76 (by decide) ?_
        refine sv_iald hC ((SW (sg_dA Γ) z K σ).length) (f := g) hit rfl (j := 1) (by decide) dX0_tell_77 ?_
        refine sv_aload_n hC dX0_tell_78 1 rfl rfl ?_
        refine sv_iconst hC (v := 2) dX0_tell_79 (by decide) ?_
        refine sv_iald hC ((SW (sg_dA Γ) z K σ).length) (f := g) hit rfl (j := 2) (by decide) dX0_tell_80 ?_
        refine sv_pSa (nn := 1) hC (met_valueOf hC.F hI b1 b2) (lw_S q707 q708 q77 q709) (by decide +kernel) ⟨by decide, by decide⟩ ⟨rfl, rfl⟩ rfl rfl (Nat.le_of_ble_eq_true rfl) ⟨(Nat.le_of_ble_eq_true rfl), (Nat.le_of_ble_eq_true rfl)⟩ dX0_tell_81 ?_
        refine sv_astB hC hz.2.2.2.2.2.2 g1 2 4 (sx_atY (by decide)) rfl (j := j) ej (X' := SW (sg_dA Γ) z (K.1, fun i => if i = j then some (g 2) else K.2.1 i, K.2.2) σ ++ [(la, .inl (sg_dA Γ 0, 5, .inl g))]) ?_ dX0_tell_84 ?_
        · refine sx_setK (by decide) rfl rfl rfl (xe_n2 rfl rfl) ?_
          show Sum.inl (sg_dA Γ 4, 4, xq _) = Sum.inl (sg_dA Γ 4, 4, xq _)
          congr 1
          congr 1
          congr 1
          congr 1
          congr 1
          funext i
          by_cases e : i = j
          · subst e; simp [va_up]
          · simp [va_up, e]
        refine sv_goto hC (tgt := 161) dX0_tell_85 (by decide) ?_
        refine sv_widen (k2 := 1) (n2 := 3) (by decide) (by decide) ?_
        exact sv_vret hC hQ dX0_tell_161 ⟨rfl, z, hz.flk ⟨g1, g2⟩, ⟨rfl, rfl⟩, rfl⟩
      · have h := sv_if c1 h
        by_cases c2 : g 0 = 2
        · have h := sv_it c2 h
          refine sv_tabIn hC (tgt := 88) dX0_tell_3 2 c2 (by decide) (by decide) rfl (by decide) ?_
          obtain ⟨j, ej, h⟩ := sv_ob h
          cases h
          refine sv_aload_n hC dX0_tell_88 0 rfl rfl ?_
          refine sv_get hC in_X0 0 (sx_atY (by decide)) rfl 2 (by decide) q227 rfl (v := .ref (z.1 3)) rfl dX0_tell_89 ?_
          refine sv_aload_n hC dX0_tell_92 1 rfl rfl ?_
          refine sv_iconst hC (v := 1) dX0_tell_93 (by decide) ?_
          refine sv_iald hC ((SW (sg_dA Γ) z K σ).length) (f := g) hit rfl (j := 1) (by decide) dX0_tell_94 ?_
          refine sv_newC (ci := 2) (fs := [.int 0, .int 0]) hC in_X1 tyX1 tyX1_ok q97 q727 q53 rfl (fun j hj => by rcases (show j = 0 ∨ j = 1 by omega) with rfl | rfl <;> rfl) (Nat.le_of_ble_eq_true rfl) (Nat.le_of_ble_eq_true rfl) dX0_tell_95 (fun q => ?_)
          refine sv_dup hC dX0_tell_98 rfl ?_
          refine sv_aload_n hC dX0_tell_99 1 rfl rfl ?_
          refine sv_iconst hC (v := 2) dX0_tell_100 (by decide) ?_
          refine sv_iald hC ((SW (sg_dA Γ) z K σ).length + 1) (f := g) (by rw [List.getElem?_cons_succ]; exact hit) rfl (j := 2) (by decide) dX0_tell_101 ?_
          refine sv_aload_n hC dX0_tell_102 1 rfl rfl ?_
          refine sv_iconst hC (v := 3) dX0_tell_103 (by decide) ?_
          refine sv_iald hC ((SW (sg_dA Γ) z K σ).length + 1) (f := g) (by rw [List.getElem?_cons_succ]; exact hit) rfl (j := 3) (by decide) dX0_tell_104 ?_
          refine sv_ci (nn := 2) hC (mi_Coat hC.F q (g 2) (g 3) (.int 0) (.int 0)) (lw_meth q106) q53 q728 q105 rfl (by decide +kernel) ⟨by decide, by decide⟩ rfl rfl (Nat.le_of_ble_eq_true rfl) ⟨(Nat.le_of_ble_eq_true rfl), (Nat.le_of_ble_eq_true rfl)⟩ dX0_tell_105 (fun v W hp => ?_)
          obtain ⟨rfl, rfl⟩ := hp
          refine sx_absorb (fun hq => ?_)
          have hz1 : SP (sg_s0 Γ) (sg_dA Γ) (zpush z q (.inr (2, [.int (g 2), .int (g 3)]))) K := hz.push hq
          have hm : q ∈ zL (zpush z q (.inr (2, [.int (g 2), .int (g 3)]))) := List.mem_append_right _ List.mem_cons_self
          have hp1 : zp (zpush z q (.inr (2, [.int (g 2), .int (g 3)]))) q = .inr (2, [.int (g 2), .int (g 3)]) := if_pos rfl
          obtain ⟨pp, hpp⟩ := sx_poolY (dA := sg_dA Γ) (K := K) (σ := σ) (Y := [(la, .inl (sg_dA Γ 0, 5, .inl g))]) hm
          rw [hp1] at hpp
          refine sv_astq hC 3 5 pp 2 (sx_atY (by decide)) rfl hpp rfl (j := j) ej (X' := SW (sg_dA Γ) (zca (zpush z q (.inr (2, [.int (g 2), .int (g 3)]))) j q) (K.1, K.2.1, fun i => if i = j then some (g 2, g 3) else K.2.2.1 i, K.2.2.2) σ ++ [(la, .inl (sg_dA Γ 0, 5, .inl g))]) ?_ dX0_tell_108 ?_
          · refine sx_setK (by decide) rfl rfl rfl (xe_n3 rfl rfl rfl rfl rfl rfl rfl) ?_
            show Sum.inl (sg_dA Γ 5, 4, xq _) = Sum.inl (sg_dA Γ 5, 4, xq _)
            congr 1
            congr 1
            congr 1
            congr 1
            congr 1
            funext i
            by_cases e : i = j
            · subst e; simp [zca, va_up]
            · simp [zca, va_up, e, zpush]
          refine sv_goto hC (tgt := 161) dX0_tell_109 (by decide) ?_
          refine sv_widen (k2 := 1) (n2 := 3) (by decide) (by decide) ?_
          exact sv_vret hC hQ dX0_tell_161 ⟨rfl, zca (zpush z q (.inr (2, [.int (g 2), .int (g 3)]))) j q, hz1.cot (v := (g 2, g 3)) hm hp1, ⟨rfl, rfl⟩, rfl⟩
        · have h := sv_if c2 h
          by_cases c3 : g 0 = 3
          · have h := sv_it c3 h
            refine sv_tabIn hC (tgt := 112) dX0_tell_3 3 c3 (by decide) (by decide) rfl (by decide) ?_
            cases h
            refine sv_aload_n hC dX0_tell_112 0 rfl rfl ?_
            refine sv_aload_n hC dX0_tell_113 1 rfl rfl ?_
            refine sv_iconst hC (v := 1) dX0_tell_114 (by decide) ?_
            refine sv_iald hC ((SW (sg_dA Γ) z K σ).length) (f := g) hit rfl (j := 1) (by decide) dX0_tell_115 ?_
            refine sv_put hC in_X0 tyX0 tyX0_ok nmX0 0 (sx_atY (by decide)) rfl 4 (by decide) q231 rfl rfl rfl rfl (Nat.le_of_ble_eq_true rfl) (Xq := SW (sg_dA Γ) z K (ms_s σ 4 (g 1)) ++ [(la, .inl (sg_dA Γ 0, 5, .inl g))]) (sx_setK (by decide) rfl rfl rfl (xe_s0 (q := 4) (v := g 1) (by decide)) rfl) dX0_tell_116 ?_
            refine sv_goto hC (tgt := 161) dX0_tell_119 (by decide) ?_
            refine sv_widen (k2 := 1) (n2 := 3) (by decide) (by decide) ?_
            exact sv_vret hC hQ dX0_tell_161 ⟨rfl, z, hz, ⟨rfl, rfl⟩, rfl⟩
          · have h := sv_if c3 h
            by_cases c4 : g 0 = 4
            · have h := sv_it c4 h
              refine sv_tabIn hC (tgt := 122) dX0_tell_3 4 c4 (by decide) (by decide) rfl (by decide) ?_
              cases h
              refine sv_aload_n hC dX0_tell_122 0 rfl rfl ?_
              refine sv_aload_n hC dX0_tell_123 1 rfl rfl ?_
              refine sv_iconst hC (v := 1) dX0_tell_124 (by decide) ?_
              refine sv_iald hC ((SW (sg_dA Γ) z K σ).length) (f := g) hit rfl (j := 1) (by decide) dX0_tell_125 ?_
              refine sv_put hC in_X0 tyX0 tyX0_ok nmX0 0 (sx_atY (by decide)) rfl 5 (by decide) q232 rfl rfl rfl rfl (Nat.le_of_ble_eq_true rfl) (Xq := SW (sg_dA Γ) z K (ms_s σ 5 (g 1)) ++ [(la, .inl (sg_dA Γ 0, 5, .inl g))]) (sx_setK (by decide) rfl rfl rfl (xe_s0 (q := 5) (v := g 1) (by decide)) rfl) dX0_tell_126 ?_
              refine sv_goto hC (tgt := 161) dX0_tell_129 (by decide) ?_
              refine sv_widen (k2 := 1) (n2 := 3) (by decide) (by decide) ?_
              exact sv_vret hC hQ dX0_tell_161 ⟨rfl, z, hz, ⟨rfl, rfl⟩, rfl⟩
            · have h := sv_if c4 h
              by_cases c5 : g 0 = 5
              · have h := sv_it c5 h
                refine sv_tabIn hC (tgt := 132) dX0_tell_3 5 c5 (by decide) (by decide) rfl (by decide) ?_
                cases h
                refine sv_aload_n hC dX0_tell_132 0 rfl rfl ?_
                refine sv_aload_n hC dX0_tell_133 1 rfl rfl ?_
                refine sv_iconst hC (v := 1) dX0_tell_134 (by decide) ?_
                refine sv_iald hC ((SW (sg_dA Γ) z K σ).length) (f := g) hit rfl (j := 1) (by decide) dX0_tell_135 ?_
                refine sv_put hC in_X0 tyX0 tyX0_ok nmX0 0 (sx_atY (by decide)) rfl 6 (by decide) q233 rfl rfl rfl rfl (Nat.le_of_ble_eq_true rfl) (Xq := SW (sg_dA Γ) z K (ms_s σ 6 (g 1)) ++ [(la, .inl (sg_dA Γ 0, 5, .inl g))]) (sx_setK (by decide) rfl rfl rfl (xe_s0 (q := 6) (v := g 1) (by decide)) rfl) dX0_tell_136 ?_
                refine sv_goto hC (tgt := 161) dX0_tell_139 (by decide) ?_
                refine sv_widen (k2 := 1) (n2 := 3) (by decide) (by decide) ?_
                exact sv_vret hC hQ dX0_tell_161 ⟨rfl, z, hz, ⟨rfl, rfl⟩, rfl⟩
              · have h := sv_if c5 h
                by_cases c6 : g 0 = 6
                · have h := sv_it c6 h
                  refine sv_tabIn hC (tgt := 142) dX0_tell_3 6 c6 (by decide) (by decide) rfl (by decide) ?_
                  cases h
                  refine sv_aload_n hC dX0_tell_142 0 rfl rfl ?_
                  refine sv_aload_n hC dX0_tell_143 1 rfl rfl ?_
                  refine sv_iconst hC (v := 1) dX0_tell_144 (by decide) ?_
                  refine sv_iald hC ((SW (sg_dA Γ) z K σ).length) (f := g) hit rfl (j := 1) (by decide) dX0_tell_145 ?_
                  refine sv_put hC in_X0 tyX0 tyX0_ok nmX0 0 (sx_atY (by decide)) rfl 7 (by decide) q234 rfl rfl rfl rfl (Nat.le_of_ble_eq_true rfl) (Xq := SW (sg_dA Γ) z K (ms_s σ 7 (g 1)) ++ [(la, .inl (sg_dA Γ 0, 5, .inl g))]) (sx_setK (by decide) rfl rfl rfl (xe_s0 (q := 7) (v := g 1) (by decide)) rfl) dX0_tell_146 ?_
                  refine sv_goto hC (tgt := 161) dX0_tell_149 (by decide) ?_
                  refine sv_widen (k2 := 1) (n2 := 3) (by decide) (by decide) ?_
                  exact sv_vret hC hQ dX0_tell_161 ⟨rfl, z, hz, ⟨rfl, rfl⟩, rfl⟩
                · have h := sv_if c6 h
                  obtain ⟨j, ej, h⟩ := sv_ob h
                  cases h
                  have hso : (g 0).toInt < 0 ∨ ((6 : Nat) : Int) < (g 0).toInt := sv_swOut (N := 6) (by decide) (fun j hj => by
                    rcases (show j = 0 ∨ j = 1 ∨ j = 2 ∨ j = 3 ∨ j = 4 ∨ j = 5 ∨ j = 6 by omega) with rfl | rfl | rfl | rfl | rfl | rfl | rfl
                    · exact c0
                    · exact c1
                    · exact c2
                    · exact c3
                    · exact c4
                    · exact c5
                    · exact c6)
                  refine sv_tabOut hC (tgt := 152) dX0_tell_3 hso (by decide) ?_
                  refine sv_aload_n hC dX0_tell_152 0 rfl rfl ?_
                  refine sv_get hC in_X0 0 (sx_atY (by decide)) rfl 0 (by decide) q222 rfl (v := .ref (z.1 1)) rfl dX0_tell_153 ?_
                  refine sv_aload_n hC dX0_tell_156 1 rfl rfl ?_
                  refine sv_iconst hC (v := 1) dX0_tell_157 (by decide) ?_
                  refine sv_iald hC ((SW (sg_dA Γ) z K σ).length) (f := g) hit rfl (j := 1) (by decide) dX0_tell_158 ?_
                  refine sv_null hC dX0_tell_159 ?_
                  refine sv_astN hC 1 3 (sx_atY (by decide)) rfl (j := j) ej (X' := SW (sg_dA Γ) z (fun i => if i = j then none else K.1 i, K.2) σ ++ [(la, .inl (sg_dA Γ 0, 5, .inl g))]) ?_ dX0_tell_160 ?_
                  · refine sx_setK (by decide) rfl rfl rfl (xe_n1 rfl rfl rfl rfl rfl) ?_
                    show Sum.inl (sg_dA Γ 3, 4, xq _) = Sum.inl (sg_dA Γ 3, 4, xq _)
                    congr 1
                    congr 1
                    congr 1
                    congr 1
                    congr 1
                    funext i
                    by_cases e : i = j
                    · subst e; simp [va_up]
                    · simp [va_up, e]
                  refine sv_widen (k2 := 1) (n2 := 3) (by decide) (by decide) ?_
                  exact sv_vret hC hQ dX0_tell_161 ⟨rfl, z, hz.fno, ⟨rfl, rfl⟩, rfl⟩)
