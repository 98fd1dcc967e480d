/-! THE SYSTEM's METHODS: their walks (printed by gen_straw.py) -/
set_option maxRecDepth 100000
set_option maxHeartbeats 2000000 in
theorem wk_xdX3_takeOff_2b {Γ : sv_G} (z : XZ) (K : XK) (hz : SP (sg_s0 Γ) (sg_dA Γ) z K) (p : Nat) (hp : p < 2) (hC : sv_C Γ cX3_takeOff 4 RX3 none rm_X3_takeOff) {r0 : MSt} (hQ : sv_RQ Γ (sv_pV (SW (sg_dA Γ) z K r0)) 0 0)  (rk_2 : Int32 → Int32 → Int32 → MSt → Option MSt) (hk_2 : ∀ (x1 : Int32) (x2 : Int32) (x3 : Int32) (σ : MSt), rk_2 x1 x2 x3 σ = some r0 → sv_V Γ (SW (sg_dA Γ) z K σ) 0 0 2 [(0, .ref (z.1 (5 + p))), (1, .int x1), (2, .int x2), (3, .int x3)] []) (x1 : Int32) (x2 : Int32) (x3 : Int32) (σ : MSt)  (h : xdX3_takeOff_2b K p rk_2 x1 x2 x3 σ = some r0) : sv_V Γ (SW (sg_dA Γ) z K σ) 0 0 2 [(0, .ref (z.1 (5 + p))), (1, .int x1), (2, .int x2), (3, .int x3)] [] := by
  unfold xdX3_takeOff_2b at h
  refine sv_iload_n hC dX3_takeOff_2 3 rfl rfl ?_
  refine sv_iconst hC (v := 4) dX3_takeOff_3 (by decide) ?_
  refine sv_icmp_ge hC (tgt := 45) dX3_takeOff_4 (by decide) (fun c1 => ?_) (fun c1 => ?_)
  · have h := sv_it c1 h
    exact sv_vret hC hQ dX3_takeOff_45 (by have e := Option.some.inj h; subst e; exact ⟨rfl, rfl⟩)
  · have h := sv_if c1 h
    refine sv_aload_n hC dX3_takeOff_7 0 rfl rfl ?_
    refine sv_get hC in_X3 (5 + p) (sx_p (p := p) hp) rfl 0 (by decide) q134 rfl (v := .ref (z.1 (7 + 2 * p))) rfl dX3_takeOff_8 ?_
    refine sv_iload_n hC dX3_takeOff_11 1 rfl rfl ?_
    obtain ⟨j2, ej2, h⟩ := sv_ob h
    refine sv_aldr hC (7 + 2 * p) 6 (sx_ps (p := p) hp) rfl rfl (j := j2) (b := z.1 (j2 + (21 + 42 * p) + 20)) ej2 rfl dX3_takeOff_12 ?_
    refine sv_iload_n hC dX3_takeOff_13 3 rfl rfl ?_
    refine sv_aload_n hC dX3_takeOff_14 0 rfl rfl ?_
    refine sv_get hC in_X3 (5 + p) (sx_p (p := p) hp) rfl 0 (by decide) q134 rfl (v := .ref (z.1 (7 + 2 * p))) rfl dX3_takeOff_15 ?_
    refine sv_iload_n hC dX3_takeOff_18 1 rfl rfl ?_
    obtain ⟨j3, ej3, h⟩ := sv_ob h
    refine sv_aldr hC (7 + 2 * p) 6 (sx_ps (p := p) hp) rfl rfl (j := j3) (b := z.1 (j3 + (21 + 42 * p) + 20)) ej3 rfl dX3_takeOff_19 ?_
    refine sv_iload_n hC dX3_takeOff_20 3 rfl rfl ?_
    obtain ⟨j4, ej4, h⟩ := sv_ob h
    refine sv_bald hC (j3 + (21 + 42 * p) + 20) (f := σ.2 (j3 + (21 + 42 * p))) (sx_a (XA_ps (p := p) (d := j3) hp (sv_ixl ej3))) rfl (j := j4) ej4 dX3_takeOff_21 ?_
    refine sv_iload_n hC dX3_takeOff_22 2 rfl rfl ?_
    refine sv_icmp_ne hC (tgt := 30) dX3_takeOff_23 (by decide) (fun c5 => ?_) (fun c5 => ?_)
    · have h := sv_if c5 h
      refine sv_aload_n hC dX3_takeOff_30 0 rfl rfl ?_
      refine sv_get hC in_X3 (5 + p) (sx_p (p := p) hp) rfl 0 (by decide) q134 rfl (v := .ref (z.1 (7 + 2 * p))) rfl dX3_takeOff_31 ?_
      refine sv_iload_n hC dX3_takeOff_34 1 rfl rfl ?_
      obtain ⟨j6, ej6, h⟩ := sv_ob h
      refine sv_aldr hC (7 + 2 * p) 6 (sx_ps (p := p) hp) rfl rfl (j := j6) (b := z.1 (j6 + (21 + 42 * p) + 20)) ej6 rfl dX3_takeOff_35 ?_
      refine sv_iload_n hC dX3_takeOff_36 3 rfl rfl ?_
      obtain ⟨j7, ej7, h⟩ := sv_ob h
      refine sv_bald hC (j6 + (21 + 42 * p) + 20) (f := σ.2 (j6 + (21 + 42 * p))) (sx_a (XA_ps (p := p) (d := j6) hp (sv_ixl ej6))) rfl (j := j7) ej7 dX3_takeOff_37 ?_
      obtain ⟨j8, ej8, h⟩ := sv_ob h
      refine sv_bast hC (j2 + (21 + 42 * p) + 20) (f := σ.2 (j2 + (21 + 42 * p))) (sx_a (XA_ps (p := p) (d := j2) hp (sv_ixl ej2))) rfl (j := j8) ej8 (Xq := SW (sg_dA Γ) z K (ms_a σ (j2 + (21 + 42 * p)) j8 (vp_nar .byte (σ.2 (j6 + (21 + 42 * p)) j7)))) (sx_as (XA_ps (p := p) (d := j2) hp (sv_ixl ej2))) dX3_takeOff_38 ?_
      refine sv_iinc hC (v := x3 + 1) dX3_takeOff_39 3 rfl rfl (by decide) (lvq := [(3, .int (x3 + 1)), (0, .ref (z.1 (5 + p))), (1, .int x1), (2, .int x2)]) rfl ?_
      refine sv_goto hC (tgt := 2) dX3_takeOff_42 (by decide) ?_
      refine sv_loc [1, 2, 3, 0] (lvq := [(0, .ref (z.1 (5 + p))), (1, .int x1), (2, .int x2), (3, .int (x3 + 1))]) rfl ?_
      exact hk_2 x1 x2 (x3 + 1) (ms_a σ (j2 + (21 + 42 * p)) j8 (vp_nar .byte (σ.2 (j6 + (21 + 42 * p)) j7))) h
    · have h := sv_it c5 h
      refine sv_iconst hC (v := (-1)) dX3_takeOff_26 (by decide) ?_
      refine sv_goto hC (tgt := 38) dX3_takeOff_27 (by decide) ?_
      obtain ⟨j9, ej9, h⟩ := sv_ob h
      refine sv_bast hC (j2 + (21 + 42 * p) + 20) (f := σ.2 (j2 + (21 + 42 * p))) (sx_a (XA_ps (p := p) (d := j2) hp (sv_ixl ej2))) rfl (j := j9) ej9 (Xq := SW (sg_dA Γ) z K (ms_a σ (j2 + (21 + 42 * p)) j9 (vp_nar .byte (-1)))) (sx_as (XA_ps (p := p) (d := j2) hp (sv_ixl ej2))) dX3_takeOff_38 ?_
      refine sv_iinc hC (v := x3 + 1) dX3_takeOff_39 3 rfl rfl (by decide) (lvq := [(3, .int (x3 + 1)), (0, .ref (z.1 (5 + p))), (1, .int x1), (2, .int x2)]) rfl ?_
      refine sv_goto hC (tgt := 2) dX3_takeOff_42 (by decide) ?_
      refine sv_loc [1, 2, 3, 0] (lvq := [(0, .ref (z.1 (5 + p))), (1, .int x1), (2, .int x2), (3, .int (x3 + 1))]) rfl ?_
      exact hk_2 x1 x2 (x3 + 1) (ms_a σ (j2 + (21 + 42 * p)) j9 (vp_nar .byte (-1))) h
set_option maxHeartbeats 2000000 in
theorem wk_xdX3_takeOff_2 {Γ : sv_G} (z : XZ) (K : XK) (hz : SP (sg_s0 Γ) (sg_dA Γ) z K) (p : Nat) (hp : p < 2) (hC : sv_C Γ cX3_takeOff 4 RX3 none rm_X3_takeOff) {r0 : MSt} (hQ : sv_RQ Γ (sv_pV (SW (sg_dA Γ) z K r0)) 0 0)  : ∀ (n : Nat) (x1 : Int32) (x2 : Int32) (x3 : Int32) (σ : MSt)  (h : xdX3_takeOff_2 K p n x1 x2 x3 σ = some r0), sv_V Γ (SW (sg_dA Γ) z K σ) 0 0 2 [(0, .ref (z.1 (5 + p))), (1, .int x1), (2, .int x2), (3, .int x3)] [] := by
  intro n
  induction n with
  | zero => intro x1 x2 x3 σ h; cases h
  | succ n ih => intro x1 x2 x3 σ h; exact wk_xdX3_takeOff_2b z K hz p hp hC hQ (xdX3_takeOff_2 K p n) ih x1 x2 x3 σ h
set_option maxHeartbeats 2000000 in
theorem wk_xdX3_takeOff {Γ : sv_G} (z : XZ) (K : XK) (hz : SP (sg_s0 Γ) (sg_dA Γ) z K) (p : Nat) (hp : p < 2) (hC : sv_C Γ cX3_takeOff 4 RX3 none rm_X3_takeOff) {r0 : MSt} (hQ : sv_RQ Γ (sv_pV (SW (sg_dA Γ) z K r0)) 0 0) (x1 : Int32) (x2 : Int32) (σ : MSt) (h : xdX3_takeOff K p x1 x2 σ = some r0) : sv_V Γ (SW (sg_dA Γ) z K σ) 0 0 0 [(0, .ref (z.1 (5 + p))), (1, .int x1), (2, .int x2)] [] := by
  unfold xdX3_takeOff at h
  refine sv_iconst hC (v := 0) dX3_takeOff_0 (by decide) ?_
  refine sv_istore_n hC dX3_takeOff_1 rfl (by decide) (lvq := [(3, .int 0), (0, .ref (z.1 (5 + p))), (1, .int x1), (2, .int x2)]) rfl ?_
  refine sv_loc [1, 2, 3, 0] (lvq := [(0, .ref (z.1 (5 + p))), (1, .int x1), (2, .int x2), (3, .int 0)]) rfl ?_
  exact wk_xdX3_takeOff_2 z K hz p hp hC hQ sv_FU x1 x2 0 σ h
set_option maxHeartbeats 2000000 in
theorem met_xdX3_takeOff {l : Launch} {s0 : State} {D : va_G} {dA : Nat → ClassId} (hF : sv_F s0 D dA) (z : XZ) (K : XK) (hz : SP s0 dA z K) (p : Nat) (hp : p < 2) (x1 : Int32) (x2 : Int32) (σ : MSt) {r0 : MSt} (h : xdX3_takeOff K p x1 x2 σ = some r0) : sv_M l s0 D yX3_takeOff cX3_takeOff 4 none rm_X3_takeOff [.ref (z.1 (5 + p)), .int x1, .int x2] (SW dA z K σ) (sv_pV (SW dA z K r0)) :=
  sv_met hF (by decide) (Nat.le_of_ble_eq_true rfl) (fun Γ hC hQ hmn e1 e2 e3 e4 => by
    subst e1 e2 e3 e4
    exact wk_xdX3_takeOff z K hz p hp hC hQ x1 x2 σ h)
set_option maxHeartbeats 2000000 in
theorem wk_xdX0_cheapest_171 {Γ : sv_G} (z : XZ) (K : XK) (hz : SP (sg_s0 Γ) (sg_dA Γ) z K) (hC : sv_C Γ cX0_cheapest 8 RX0 (some .int) rm_X0_cheapest) {r0 : Int32 × MSt} (hQ : sv_RQ Γ (sv_pI r0.1 (SW (sg_dA Γ) z K r0.2)) 0 0) (rk_94 : Int32 → Int32 → Int32 → Int32 → Int32 → MSt → Option (Int32 × MSt)) (hk_94 : ∀ (x1 : Int32) (x3 : Int32) (x4 : Int32) (x5 : Int32) (x6 : Int32) (σ : MSt), rk_94 x1 x3 x4 x5 x6 σ = some r0 → sv_V Γ (SW (sg_dA Γ) z K σ) 0 0 94 [(0, .ref (z.1 0)), (1, .int x1), (3, .int x3), (4, .int x4), (5, .int x5), (6, .int x6)] []) (x1 : Int32) (x3 : Int32) (x5 : Int32) (x6 : Int32) (x7 : Int32) (t0 : Int32) (σ : MSt)  (h : xdX0_cheapest_171 K rk_94 x1 x3 x5 x6 x7 t0 σ = some r0) : sv_V Γ (SW (sg_dA Γ) z K σ) 0 0 171 [(0, .ref (z.1 0)), (1, .int x1), (3, .int x3), (5, .int x5), (6, .int x6), (7, .int x7)] [.int t0] := by
  unfold xdX0_cheapest_171 at h
  refine sv_istore hC dX0_cheapest_171 (by decide) (lvq := [(4, .int t0), (0, .ref (z.1 0)), (1, .int x1), (3, .int x3), (5, .int x5), (6, .int x6), (7, .int x7)]) rfl ?_
  refine sv_iload hC dX0_cheapest_173 6 rfl ?_
  refine sv_iload hC dX0_cheapest_175 4 rfl ?_
  refine sv_mmin hC q873 q422 q69 q423 (by decide) (Nat.le_of_ble_eq_true rfl) ⟨Nat.le_refl 0, Nat.le_refl 0⟩ dX0_cheapest_177 ?_
  refine sv_istore hC dX0_cheapest_180 (by decide) (lvq := [(5, .int (if x5 < x7 then x5 else x7)), (4, .int t0), (0, .ref (z.1 0)), (1, .int x1), (3, .int x3), (6, .int x6), (7, .int x7)]) rfl ?_
  refine sv_iinc hC (v := x6 + 1) dX0_cheapest_182 5 rfl rfl (by decide) (lvq := [(6, .int (x6 + 1)), (5, .int (if x5 < x7 then x5 else x7)), (4, .int t0), (0, .ref (z.1 0)), (1, .int x1), (3, .int x3), (7, .int x7)]) rfl ?_
  refine sv_goto hC (tgt := 94) dX0_cheapest_185 (by decide) ?_
  refine sv_loc [3, 4, 5, 2, 1, 0] (lvq := [(0, .ref (z.1 0)), (1, .int x1), (3, .int x3), (4, .int t0), (5, .int (if x5 < x7 then x5 else x7)), (6, .int (x6 + 1))]) rfl ?_
  exact hk_94 x1 x3 t0 (if x5 < x7 then x5 else x7) (x6 + 1) σ h
set_option maxHeartbeats 2000000 in
theorem wk_xdX0_cheapest_104b {Γ : sv_G} (z : XZ) (K : XK) (hz : SP (sg_s0 Γ) (sg_dA Γ) z K) (hC : sv_C Γ cX0_cheapest 8 RX0 (some .int) rm_X0_cheapest) {r0 : Int32 × MSt} (hQ : sv_RQ Γ (sv_pI r0.1 (SW (sg_dA Γ) z K r0.2)) 0 0) (rk_94 : Int32 → Int32 → Int32 → Int32 → Int32 → MSt → Option (Int32 × MSt)) (hk_94 : ∀ (x1 : Int32) (x3 : Int32) (x4 : Int32) (x5 : Int32) (x6 : Int32) (σ : MSt), rk_94 x1 x3 x4 x5 x6 σ = some r0 → sv_V Γ (SW (sg_dA Γ) z K σ) 0 0 94 [(0, .ref (z.1 0)), (1, .int x1), (3, .int x3), (4, .int x4), (5, .int x5), (6, .int x6)] []) (rk_104 : Int32 → Int32 → Int32 → Int32 → Int32 → Int32 → MSt → Option (Int32 × MSt)) (hk_104 : ∀ (x1 : Int32) (x3 : Int32) (x4 : Int32) (x5 : Int32) (x6 : Int32) (x7 : Int32) (σ : MSt), rk_104 x1 x3 x4 x5 x6 x7 σ = some r0 → sv_V Γ (SW (sg_dA Γ) z K σ) 0 0 104 [(0, .ref (z.1 0)), (1, .int x1), (3, .int x3), (4, .int x4), (5, .int x5), (6, .int x6), (7, .int x7)] []) (x1 : Int32) (x3 : Int32) (x4 : Int32) (x5 : Int32) (x6 : Int32) (x7 : Int32) (σ : MSt)  (h : xdX0_cheapest_104b K rk_94 rk_104 x1 x3 x4 x5 x6 x7 σ = some r0) : sv_V Γ (SW (sg_dA Γ) z K σ) 0 0 104 [(0, .ref (z.1 0)), (1, .int x1), (3, .int x3), (4, .int x4), (5, .int x5), (6, .int x6), (7, .int x7)] [] := by
  unfold xdX0_cheapest_104b at h
  refine sv_iload hC dX0_cheapest_104 6 rfl ?_
  refine sv_bipush hC (v := 21) dX0_cheapest_106 (by decide) ?_
  refine sv_icmp_ge hC (tgt := 147) dX0_cheapest_108 (by decide) (fun c14 => ?_) (fun c14 => ?_)
  · have h := sv_it c14 h
    refine sv_aload_n hC dX0_cheapest_147 0 rfl rfl ?_
    refine sv_aload_n hC dX0_cheapest_148 0 rfl rfl ?_
    refine sv_get hC in_X0 0 (sx_at (by decide)) rfl 9 (by decide) q236 rfl (v := .ref (z.1 6)) rfl dX0_cheapest_149 ?_
    obtain ⟨p15, ep15, h⟩ := sv_ob h
    refine sv_wVi (nn := 1) hC (met_xdX0_costOf hC.F z K hz 1 (by decide) σ ep15) 0 1 (sx_at (by decide)) rfl rfl (lw_V q841 q843 qs13 q52 q844) (by decide +kernel) ⟨by decide, by decide⟩ ⟨rfl, rfl⟩ rfl rfl (Nat.le_of_ble_eq_true rfl) ⟨Nat.le_refl 0, Nat.le_refl 0⟩ dX0_cheapest_152 ?_
    refine sv_istore hC dX0_cheapest_155 (by decide) (lvq := [(7, .int p15.1), (0, .ref (z.1 0)), (1, .int x1), (3, .int x3), (4, .int x4), (5, .int x5), (6, .int x6)]) rfl ?_
    refine sv_iload hC dX0_cheapest_157 0 rfl ?_
    refine sv_iload hC dX0_cheapest_159 5 rfl ?_
    refine sv_icmp_ge hC (tgt := 169) dX0_cheapest_161 (by decide) (fun c16 => ?_) (fun c16 => ?_)
    · have h := sv_it c16 h
      refine sv_iload hC dX0_cheapest_169 4 rfl ?_
      refine sv_loc [1, 2, 3, 5, 6, 0] (lvq := [(0, .ref (z.1 0)), (1, .int x1), (3, .int x3), (5, .int x5), (6, .int x6), (7, .int p15.1)]) rfl ?_
      exact wk_xdX0_cheapest_171 z K hz hC hQ rk_94 hk_94 x1 x3 x5 x6 p15.1 x4 p15.2 h
    · have h := sv_if c16 h
      refine sv_iload hC dX0_cheapest_164 6 rfl ?_
      refine sv_goto hC (tgt := 171) dX0_cheapest_166 (by decide) ?_
      refine sv_loc [1, 2, 3, 5, 6, 0] (lvq := [(0, .ref (z.1 0)), (1, .int x1), (3, .int x3), (5, .int x5), (6, .int x6), (7, .int p15.1)]) rfl ?_
      exact wk_xdX0_cheapest_171 z K hz hC hQ rk_94 hk_94 x1 x3 x5 x6 p15.1 x6 p15.2 h
  · have h := sv_if c14 h
    refine sv_aload_n hC dX0_cheapest_111 0 rfl rfl ?_
    refine sv_get hC in_X0 0 (sx_at (by decide)) rfl 9 (by decide) q236 rfl (v := .ref (z.1 6)) rfl dX0_cheapest_112 ?_
    refine sv_get hC in_X3 (5 + 1) (sx_p (p := 1) (by decide)) rfl 1 (by decide) q138 rfl (v := .ref (z.1 (8 + 2 * 1))) rfl dX0_cheapest_115 ?_
    refine sv_iload hC dX0_cheapest_118 6 rfl ?_
    obtain ⟨j17, ej17, h⟩ := sv_ob h
    refine sv_aldr hC (8 + 2 * 1) 7 (sx_pr (p := 1) (by decide)) rfl rfl (j := j17) (b := z.1 (j17 + (42 + 42 * 1) + 20)) ej17 rfl dX0_cheapest_120 ?_
    refine sv_iload_n hC dX0_cheapest_121 1 rfl rfl ?_
    refine sv_iload hC dX0_cheapest_122 5 rfl ?_
    refine sv_if_le hC (tgt := 139) dX0_cheapest_124 (by decide) (fun c18 => ?_) (fun c18 => ?_)
    · have h := sv_it c18 h
      refine sv_iconst hC (v := 0) dX0_cheapest_139 (by decide) ?_
      obtain ⟨j19, ej19, h⟩ := sv_ob h
      refine sv_zast hC (j17 + (42 + 42 * 1) + 20) (f := σ.2 (j17 + (42 + 42 * 1))) (sx_a (XA_pr (p := 1) (d := j17) (by decide) (sv_ixl ej17))) rfl (j := j19) ej19 (Xq := SW (sg_dA Γ) z K (ms_a σ (j17 + (42 + 42 * 1)) j19 (vp_nar .boolean 0))) (sx_as (XA_pr (p := 1) (d := j17) (by decide) (sv_ixl ej17))) dX0_cheapest_140 ?_
      refine sv_iinc hC (v := x7 + 1) dX0_cheapest_141 6 rfl rfl (by decide) (lvq := [(7, .int (x7 + 1)), (0, .ref (z.1 0)), (1, .int x1), (3, .int x3), (4, .int x4), (5, .int x5), (6, .int x6)]) rfl ?_
      refine sv_goto hC (tgt := 104) dX0_cheapest_144 (by decide) ?_
      refine sv_loc [1, 2, 3, 4, 5, 6, 0] (lvq := [(0, .ref (z.1 0)), (1, .int x1), (3, .int x3), (4, .int x4), (5, .int x5), (6, .int x6), (7, .int (x7 + 1))]) rfl ?_
      exact hk_104 x1 x3 x4 x5 x6 (x7 + 1) (ms_a σ (j17 + (42 + 42 * 1)) j19 (vp_nar .boolean 0)) h
    · have h := sv_if c18 h
      refine sv_iload hC dX0_cheapest_127 6 rfl ?_
      refine sv_iload hC dX0_cheapest_129 5 rfl ?_
      obtain ⟨gd, h⟩ := sv_gn h
      refine sv_irem hC dX0_cheapest_131 gd ?_
      refine sv_if_ne hC (tgt := 139) dX0_cheapest_132 (by decide) (fun c20 => ?_) (fun c20 => ?_)
      · have h := sv_if c20 h
        refine sv_iconst hC (v := 0) dX0_cheapest_139 (by decide) ?_
        obtain ⟨j21, ej21, h⟩ := sv_ob h
        refine sv_zast hC (j17 + (42 + 42 * 1) + 20) (f := σ.2 (j17 + (42 + 42 * 1))) (sx_a (XA_pr (p := 1) (d := j17) (by decide) (sv_ixl ej17))) rfl (j := j21) ej21 (Xq := SW (sg_dA Γ) z K (ms_a σ (j17 + (42 + 42 * 1)) j21 (vp_nar .boolean 0))) (sx_as (XA_pr (p := 1) (d := j17) (by decide) (sv_ixl ej17))) dX0_cheapest_140 ?_
        refine sv_iinc hC (v := x7 + 1) dX0_cheapest_141 6 rfl rfl (by decide) (lvq := [(7, .int (x7 + 1)), (0, .ref (z.1 0)), (1, .int x1), (3, .int x3), (4, .int x4), (5, .int x5), (6, .int x6)]) rfl ?_
        refine sv_goto hC (tgt := 104) dX0_cheapest_144 (by decide) ?_
        refine sv_loc [1, 2, 3, 4, 5, 6, 0] (lvq := [(0, .ref (z.1 0)), (1, .int x1), (3, .int x3), (4, .int x4), (5, .int x5), (6, .int x6), (7, .int (x7 + 1))]) rfl ?_
        exact hk_104 x1 x3 x4 x5 x6 (x7 + 1) (ms_a σ (j17 + (42 + 42 * 1)) j21 (vp_nar .boolean 0)) h
      · have h := sv_it c20 h
        refine sv_iconst hC (v := 1) dX0_cheapest_135 (by decide) ?_
        refine sv_goto hC (tgt := 140) dX0_cheapest_136 (by decide) ?_
        obtain ⟨j22, ej22, h⟩ := sv_ob h
        refine sv_zast hC (j17 + (42 + 42 * 1) + 20) (f := σ.2 (j17 + (42 + 42 * 1))) (sx_a (XA_pr (p := 1) (d := j17) (by decide) (sv_ixl ej17))) rfl (j := j22) ej22 (Xq := SW (sg_dA Γ) z K (ms_a σ (j17 + (42 + 42 * 1)) j22 (vp_nar .boolean 1))) (sx_as (XA_pr (p := 1) (d := j17) (by decide) (sv_ixl ej17))) dX0_cheapest_140 ?_
        refine sv_iinc hC (v := x7 + 1) dX0_cheapest_141 6 rfl rfl (by decide) (lvq := [(7, .int (x7 + 1)), (0, .ref (z.1 0)), (1, .int x1), (3, .int x3), (4, .int x4), (5, .int x5), (6, .int x6)]) rfl ?_
        refine sv_goto hC (tgt := 104) dX0_cheapest_144 (by decide) ?_
        refine sv_loc [1, 2, 3, 4, 5, 6, 0] (lvq := [(0, .ref (z.1 0)), (1, .int x1), (3, .int x3), (4, .int x4), (5, .int x5), (6, .int x6), (7, .int (x7 + 1))]) rfl ?_
        exact hk_104 x1 x3 x4 x5 x6 (x7 + 1) (ms_a σ (j17 + (42 + 42 * 1)) j22 (vp_nar .boolean 1)) h
set_option maxHeartbeats 2000000 in
theorem wk_xdX0_cheapest_104 {Γ : sv_G} (z : XZ) (K : XK) (hz : SP (sg_s0 Γ) (sg_dA Γ) z K) (hC : sv_C Γ cX0_cheapest 8 RX0 (some .int) rm_X0_cheapest) {r0 : Int32 × MSt} (hQ : sv_RQ Γ (sv_pI r0.1 (SW (sg_dA Γ) z K r0.2)) 0 0) (rk_94 : Int32 → Int32 → Int32 → Int32 → Int32 → MSt → Option (Int32 × MSt)) (hk_94 : ∀ (x1 : Int32) (x3 : Int32) (x4 : Int32) (x5 : Int32) (x6 : Int32) (σ : MSt), rk_94 x1 x3 x4 x5 x6 σ = some r0 → sv_V Γ (SW (sg_dA Γ) z K σ) 0 0 94 [(0, .ref (z.1 0)), (1, .int x1), (3, .int x3), (4, .int x4), (5, .int x5), (6, .int x6)] []) : ∀ (n : Nat) (x1 : Int32) (x3 : Int32) (x4 : Int32) (x5 : Int32) (x6 : Int32) (x7 : Int32) (σ : MSt)  (h : xdX0_cheapest_104 K rk_94 n x1 x3 x4 x5 x6 x7 σ = some r0), sv_V Γ (SW (sg_dA Γ) z K σ) 0 0 104 [(0, .ref (z.1 0)), (1, .int x1), (3, .int x3), (4, .int x4), (5, .int x5), (6, .int x6), (7, .int x7)] [] := by
  intro n
  induction n with
  | zero => intro x1 x3 x4 x5 x6 x7 σ h; cases h
  | succ n ih => intro x1 x3 x4 x5 x6 x7 σ h; exact wk_xdX0_cheapest_104b z K hz hC hQ rk_94 hk_94 (xdX0_cheapest_104 K rk_94 n) ih x1 x3 x4 x5 x6 x7 σ h
set_option maxHeartbeats 2000000 in
theorem wk_xdX0_cheapest_94b {Γ : sv_G} (z : XZ) (K : XK) (hz : SP (sg_s0 Γ) (sg_dA Γ) z K) (hC : sv_C Γ cX0_cheapest 8 RX0 (some .int) rm_X0_cheapest) {r0 : Int32 × MSt} (hQ : sv_RQ Γ (sv_pI r0.1 (SW (sg_dA Γ) z K r0.2)) 0 0)  (rk_94 : Int32 → Int32 → Int32 → Int32 → Int32 → MSt → Option (Int32 × MSt)) (hk_94 : ∀ (x1 : Int32) (x3 : Int32) (x4 : Int32) (x5 : Int32) (x6 : Int32) (σ : MSt), rk_94 x1 x3 x4 x5 x6 σ = some r0 → sv_V Γ (SW (sg_dA Γ) z K σ) 0 0 94 [(0, .ref (z.1 0)), (1, .int x1), (3, .int x3), (4, .int x4), (5, .int x5), (6, .int x6)] []) (x1 : Int32) (x3 : Int32) (x4 : Int32) (x5 : Int32) (x6 : Int32) (σ : MSt)  (h : xdX0_cheapest_94b K rk_94 x1 x3 x4 x5 x6 σ = some r0) : sv_V Γ (SW (sg_dA Γ) z K σ) 0 0 94 [(0, .ref (z.1 0)), (1, .int x1), (3, .int x3), (4, .int x4), (5, .int x5), (6, .int x6)] [] := by
  unfold xdX0_cheapest_94b at h
  refine sv_iload hC dX0_cheapest_94 5 rfl ?_
  refine sv_bipush hC (v := 21) dX0_cheapest_96 (by decide) ?_
  refine sv_icmp_gt hC (tgt := 188) dX0_cheapest_98 (by decide) (fun c12 => ?_) (fun c12 => ?_)
  · have h := sv_it c12 h
    refine sv_iload_n hC dX0_cheapest_188 2 rfl rfl ?_
    refine sv_if_ne hC (tgt := 197) dX0_cheapest_189 (by decide) (fun c13 => ?_) (fun c13 => ?_)
    · have h := sv_if c13 h
      refine sv_iload hC dX0_cheapest_197 4 rfl ?_
      exact sv_iret hC hQ dX0_cheapest_199 (by have e := Option.some.inj h; subst e; exact ⟨rfl, rfl⟩)
    · have h := sv_it c13 h
      refine sv_iload hC dX0_cheapest_192 3 rfl ?_
      refine sv_goto hC (tgt := 199) dX0_cheapest_194 (by decide) ?_
      exact sv_iret hC hQ dX0_cheapest_199 (by have e := Option.some.inj h; subst e; exact ⟨rfl, rfl⟩)
  · have h := sv_if c12 h
    refine sv_iconst hC (v := 0) dX0_cheapest_101 (by decide) ?_
    refine sv_istore hC dX0_cheapest_102 (by decide) (lvq := [(7, .int 0), (0, .ref (z.1 0)), (1, .int x1), (3, .int x3), (4, .int x4), (5, .int x5), (6, .int x6)]) rfl ?_
    refine sv_loc [1, 2, 3, 4, 5, 6, 0] (lvq := [(0, .ref (z.1 0)), (1, .int x1), (3, .int x3), (4, .int x4), (5, .int x5), (6, .int x6), (7, .int 0)]) rfl ?_
    exact wk_xdX0_cheapest_104 z K hz hC hQ rk_94 hk_94 sv_FU x1 x3 x4 x5 x6 0 σ h
set_option maxHeartbeats 2000000 in
theorem wk_xdX0_cheapest_94 {Γ : sv_G} (z : XZ) (K : XK) (hz : SP (sg_s0 Γ) (sg_dA Γ) z K) (hC : sv_C Γ cX0_cheapest 8 RX0 (some .int) rm_X0_cheapest) {r0 : Int32 × MSt} (hQ : sv_RQ Γ (sv_pI r0.1 (SW (sg_dA Γ) z K r0.2)) 0 0)  : ∀ (n : Nat) (x1 : Int32) (x3 : Int32) (x4 : Int32) (x5 : Int32) (x6 : Int32) (σ : MSt)  (h : xdX0_cheapest_94 K n x1 x3 x4 x5 x6 σ = some r0), sv_V Γ (SW (sg_dA Γ) z K σ) 0 0 94 [(0, .ref (z.1 0)), (1, .int x1), (3, .int x3), (4, .int x4), (5, .int x5), (6, .int x6)] [] := by
  intro n
  induction n with
  | zero => intro x1 x3 x4 x5 x6 σ h; cases h
  | succ n ih => intro x1 x3 x4 x5 x6 σ h; exact wk_xdX0_cheapest_94b z K hz hC hQ (xdX0_cheapest_94 K n) ih x1 x3 x4 x5 x6 σ h
set_option maxHeartbeats 2000000 in
theorem wk_xdX0_cheapest_46b {Γ : sv_G} (z : XZ) (K : XK) (hz : SP (sg_s0 Γ) (sg_dA Γ) z K) (hC : sv_C Γ cX0_cheapest 8 RX0 (some .int) rm_X0_cheapest) {r0 : Int32 × MSt} (hQ : sv_RQ Γ (sv_pI r0.1 (SW (sg_dA Γ) z K r0.2)) 0 0)  (rk_46 : Int32 → Int32 → Int32 → Int32 → MSt → Option (Int32 × MSt)) (hk_46 : ∀ (x1 : Int32) (x2 : Int32) (x3 : Int32) (x4 : Int32) (σ : MSt), rk_46 x1 x2 x3 x4 σ = some r0 → sv_V Γ (SW (sg_dA Γ) z K σ) 0 0 46 [(0, .ref (z.1 0)), (1, .int x1), (2, .int x2), (3, .int x3), (4, .int x4)] []) (x1 : Int32) (x2 : Int32) (x3 : Int32) (x4 : Int32) (σ : MSt)  (h : xdX0_cheapest_46b K rk_46 x1 x2 x3 x4 σ = some r0) : sv_V Γ (SW (sg_dA Γ) z K σ) 0 0 46 [(0, .ref (z.1 0)), (1, .int x1), (2, .int x2), (3, .int x3), (4, .int x4)] [] := by
  unfold xdX0_cheapest_46b at h
  refine sv_iload hC dX0_cheapest_46 4 rfl ?_
  refine sv_bipush hC (v := 21) dX0_cheapest_48 (by decide) ?_
  refine sv_icmp_ge hC (tgt := 83) dX0_cheapest_50 (by decide) (fun c8 => ?_) (fun c8 => ?_)
  · have h := sv_it c8 h
    refine sv_iconst hC (v := 0) dX0_cheapest_83 (by decide) ?_
    refine sv_istore hC dX0_cheapest_84 (by decide) (lvq := [(4, .int 0), (0, .ref (z.1 0)), (1, .int x1), (2, .int x2), (3, .int x3)]) rfl ?_
    refine sv_ldcw hC dX0_cheapest_86 q908 ?_
    refine sv_istore hC dX0_cheapest_89 (by decide) (lvq := [(5, .int 2147483647), (4, .int 0), (0, .ref (z.1 0)), (1, .int x1), (2, .int x2), (3, .int x3)]) rfl ?_
    refine sv_iconst hC (v := 0) dX0_cheapest_91 (by decide) ?_
    refine sv_istore hC dX0_cheapest_92 (by decide) (lvq := [(6, .int 0), (5, .int 2147483647), (4, .int 0), (0, .ref (z.1 0)), (1, .int x1), (2, .int x2), (3, .int x3)]) rfl ?_
    refine sv_loc [3, 4, 6, 2, 1, 0] (lvq := [(0, .ref (z.1 0)), (1, .int x1), (3, .int x3), (4, .int 0), (5, .int 2147483647), (6, .int 0)]) rfl ?_
    exact wk_xdX0_cheapest_94 z K hz hC hQ sv_FU x1 x3 0 2147483647 0 σ h
  · have h := sv_if c8 h
    refine sv_aload_n hC dX0_cheapest_53 0 rfl rfl ?_
    refine sv_get hC in_X0 0 (sx_at (by decide)) rfl 9 (by decide) q236 rfl (v := .ref (z.1 6)) rfl dX0_cheapest_54 ?_
    refine sv_iload hC dX0_cheapest_57 4 rfl ?_
    refine sv_iload_n hC dX0_cheapest_59 1 rfl rfl ?_
    obtain ⟨s9, es9, h⟩ := sv_ob h
    refine sv_wVv (nn := 2) hC (met_xdX3_takeOff hC.F z K hz 1 (by decide) x4 x1 σ es9) (5 + 1) 4 (sx_p (p := 1) (by decide)) rfl rfl (lw_V q904 q905 q906 q55 q907) (by decide +kernel) ⟨by decide, by decide⟩ ⟨rfl, rfl⟩ rfl rfl (Nat.le_of_ble_eq_true rfl) ⟨Nat.le_refl 0, Nat.le_refl 0⟩ dX0_cheapest_60 ?_
    refine sv_aload_n hC dX0_cheapest_63 0 rfl rfl ?_
    refine sv_get hC in_X0 0 (sx_at (by decide)) rfl 9 (by decide) q236 rfl (v := .ref (z.1 6)) rfl dX0_cheapest_64 ?_
    refine sv_get hC in_X3 (5 + 1) (sx_p (p := 1) (by decide)) rfl 0 (by decide) q135 rfl (v := .ref (z.1 (7 + 2 * 1))) rfl dX0_cheapest_67 ?_
    refine sv_iload hC dX0_cheapest_70 4 rfl ?_
    obtain ⟨j10, ej10, h⟩ := sv_ob h
    refine sv_aldr hC (7 + 2 * 1) 6 (sx_ps (p := 1) (by decide)) rfl rfl (j := j10) (b := z.1 (j10 + (21 + 42 * 1) + 20)) ej10 rfl dX0_cheapest_72 ?_
    refine sv_iload_n hC dX0_cheapest_73 2 rfl rfl ?_
    refine sv_iload_n hC dX0_cheapest_74 1 rfl rfl ?_
    refine sv_i2b hC dX0_cheapest_75 ?_
    obtain ⟨j11, ej11, h⟩ := sv_ob h
    refine sv_bast hC (j10 + (21 + 42 * 1) + 20) (f := s9.2 (j10 + (21 + 42 * 1))) (sx_a (XA_ps (p := 1) (d := j10) (by decide) (sv_ixl ej10))) rfl (j := j11) ej11 (Xq := SW (sg_dA Γ) z K (ms_a s9 (j10 + (21 + 42 * 1)) j11 (vp_nar .byte x1.toInt8.toInt32))) (sx_as (XA_ps (p := 1) (d := j10) (by decide) (sv_ixl ej10))) dX0_cheapest_76 ?_
    refine sv_iinc hC (v := x4 + 1) dX0_cheapest_77 4 rfl rfl (by decide) (lvq := [(4, .int (x4 + 1)), (0, .ref (z.1 0)), (1, .int x1), (2, .int x2), (3, .int x3)]) rfl ?_
    refine sv_goto hC (tgt := 46) dX0_cheapest_80 (by decide) ?_
    refine sv_loc [1, 2, 3, 4, 0] (lvq := [(0, .ref (z.1 0)), (1, .int x1), (2, .int x2), (3, .int x3), (4, .int (x4 + 1))]) rfl ?_
    exact hk_46 x1 x2 x3 (x4 + 1) (ms_a s9 (j10 + (21 + 42 * 1)) j11 (vp_nar .byte x1.toInt8.toInt32)) h
set_option maxHeartbeats 2000000 in
theorem wk_xdX0_cheapest_46 {Γ : sv_G} (z : XZ) (K : XK) (hz : SP (sg_s0 Γ) (sg_dA Γ) z K) (hC : sv_C Γ cX0_cheapest 8 RX0 (some .int) rm_X0_cheapest) {r0 : Int32 × MSt} (hQ : sv_RQ Γ (sv_pI r0.1 (SW (sg_dA Γ) z K r0.2)) 0 0)  : ∀ (n : Nat) (x1 : Int32) (x2 : Int32) (x3 : Int32) (x4 : Int32) (σ : MSt)  (h : xdX0_cheapest_46 K n x1 x2 x3 x4 σ = some r0), sv_V Γ (SW (sg_dA Γ) z K σ) 0 0 46 [(0, .ref (z.1 0)), (1, .int x1), (2, .int x2), (3, .int x3), (4, .int x4)] [] := by
  intro n
  induction n with
  | zero => intro x1 x2 x3 x4 σ h; cases h
  | succ n ih => intro x1 x2 x3 x4 σ h; exact wk_xdX0_cheapest_46b z K hz hC hQ (xdX0_cheapest_46 K n) ih x1 x2 x3 x4 σ h
set_option maxHeartbeats 2000000 in
theorem wk_xdX0_cheapest {Γ : sv_G} (z : XZ) (K : XK) (hz : SP (sg_s0 Γ) (sg_dA Γ) z K) (hC : sv_C Γ cX0_cheapest 8 RX0 (some .int) rm_X0_cheapest) {r0 : Int32 × MSt} (hQ : sv_RQ Γ (sv_pI r0.1 (SW (sg_dA Γ) z K r0.2)) 0 0) (x1 : Int32) (x2 : Int32) (x3 : Int32) (σ : MSt) (h : xdX0_cheapest K x1 x2 x3 σ = some r0) : sv_V Γ (SW (sg_dA Γ) z K σ) 0 0 0 [(0, .ref (z.1 0)), (1, .int x1), (2, .int x2), (3, .int x3)] [] := by
  unfold xdX0_cheapest at h
  refine sv_aload_n hC dX0_cheapest_0 0 rfl rfl ?_
  refine sv_iload_n hC dX0_cheapest_1 1 rfl rfl ?_
  obtain ⟨r1, er1, h⟩ := sv_ob h
  refine sv_wVi (nn := 1) hC (met_xdX0_isCoat hC.F z K hz σ x1 er1) 0 1 (sx_at (by decide)) rfl rfl (lw_V q757 q759 qs8 q52 q760) (by decide +kernel) ⟨by decide, by decide⟩ ⟨rfl, rfl⟩ rfl rfl (Nat.le_of_ble_eq_true rfl) ⟨Nat.le_refl 0, Nat.le_refl 0⟩ dX0_cheapest_2 ?_
  refine sv_if_eq hC (tgt := 16) dX0_cheapest_5 (by decide) (fun c2 => ?_) (fun c2 => ?_)
  · have h := sv_it c2 h
    refine sv_bipush hC (v := (-2)) dX0_cheapest_16 (by decide) ?_
    exact sv_iret hC hQ dX0_cheapest_18 (by have e := Option.some.inj h; subst e; exact ⟨rfl, rfl⟩)
  · have h := sv_if c2 h
    refine sv_aload_n hC dX0_cheapest_8 0 rfl rfl ?_
    refine sv_iload_n hC dX0_cheapest_9 2 rfl rfl ?_
    obtain ⟨r3, er3, h⟩ := sv_ob h
    refine sv_wVi (nn := 1) hC (met_xdX0_isField hC.F z K hz σ x2 er3) 0 1 (sx_at (by decide)) rfl rfl (lw_V q736 q738 qs6 q52 q739) (by decide +kernel) ⟨by decide, by decide⟩ ⟨rfl, rfl⟩ rfl rfl (Nat.le_of_ble_eq_true rfl) ⟨Nat.le_refl 0, Nat.le_refl 0⟩ dX0_cheapest_10 ?_
    refine sv_if_ne hC (tgt := 19) dX0_cheapest_13 (by decide) (fun c4 => ?_) (fun c4 => ?_)
    · have h := sv_if c4 h
      refine sv_iload_n hC dX0_cheapest_19 3 rfl rfl ?_
      refine sv_i2l hC dX0_cheapest_20 ?_
      refine sv_lconst hC (v := 0) dX0_cheapest_21 (by decide) ?_
      refine sv_lconst hC (v := 1) dX0_cheapest_22 (by decide) ?_
      obtain ⟨r5, er5, h⟩ := sv_ob h
      refine sv_pSi (nn := 3) hC (met_xdX0_in hC.F x3.toInt64 0 1 er5) (lw_S q292 q293 q52 q294) (by decide +kernel) ⟨by decide, by decide⟩ ⟨rfl, rfl⟩ rfl rfl (Nat.le_of_ble_eq_true rfl) ⟨Nat.le_refl 0, Nat.le_refl 0⟩ dX0_cheapest_23 ?_
      refine sv_if_ne hC (tgt := 32) dX0_cheapest_26 (by decide) (fun c6 => ?_) (fun c6 => ?_)
      · have h := sv_if c6 h
        refine sv_aload_n hC dX0_cheapest_32 0 rfl rfl ?_
        refine sv_get hC in_X0 0 (sx_at (by decide)) rfl 9 (by decide) q236 rfl (v := .ref (z.1 6)) rfl dX0_cheapest_33 ?_
        refine sv_aload_n hC dX0_cheapest_36 0 rfl rfl ?_
        refine sv_get hC in_X0 0 (sx_at (by decide)) rfl 8 (by decide) q235 rfl (v := .ref (z.1 5)) rfl dX0_cheapest_37 ?_
        obtain ⟨s7, es7, h⟩ := sv_ob h
        refine sv_wVv (nn := 1) hC (met_xdX3_copy hC.F z K hz 1 0 (by decide) (by decide) σ es7) (5 + 1) 4 (sx_p (p := 1) (by decide)) rfl rfl (lw_V q899 q900 q901 q55 q902) (by decide +kernel) ⟨by decide, by decide⟩ ⟨rfl, rfl⟩ rfl rfl (Nat.le_of_ble_eq_true rfl) ⟨Nat.le_refl 0, Nat.le_refl 0⟩ dX0_cheapest_40 ?_
        refine sv_iconst hC (v := 0) dX0_cheapest_43 (by decide) ?_
        refine sv_istore hC dX0_cheapest_44 (by decide) (lvq := [(4, .int 0), (0, .ref (z.1 0)), (1, .int x1), (2, .int x2), (3, .int x3)]) rfl ?_
        refine sv_loc [1, 2, 3, 4, 0] (lvq := [(0, .ref (z.1 0)), (1, .int x1), (2, .int x2), (3, .int x3), (4, .int 0)]) rfl ?_
        exact wk_xdX0_cheapest_46 z K hz hC hQ sv_FU x1 x2 x3 0 s7 h
      · have h := sv_it c6 h
        refine sv_bipush hC (v := (-3)) dX0_cheapest_29 (by decide) ?_
        exact sv_iret hC hQ dX0_cheapest_31 (by have e := Option.some.inj h; subst e; exact ⟨rfl, rfl⟩)
    · have h := sv_it c4 h
      refine sv_bipush hC (v := (-2)) dX0_cheapest_16 (by decide) ?_
      exact sv_iret hC hQ dX0_cheapest_18 (by have e := Option.some.inj h; subst e; exact ⟨rfl, rfl⟩)
set_option maxHeartbeats 2000000 in
theorem met_xdX0_cheapest {l : Launch} {s0 : State} {D : va_G} {dA : Nat → ClassId} (hF : sv_F s0 D dA) (z : XZ) (K : XK) (hz : SP s0 dA z K) (x1 : Int32) (x2 : Int32) (x3 : Int32) (σ : MSt) {r0 : Int32 × MSt} (h : xdX0_cheapest K x1 x2 x3 σ = some r0) : sv_M l s0 D yX0_cheapest cX0_cheapest 8 (some .int) rm_X0_cheapest [.ref (z.1 0), .int x1, .int x2, .int x3] (SW dA z K σ) (sv_pI r0.1 (SW dA z K r0.2)) :=
  sv_met hF (by decide) (Nat.le_of_ble_eq_true rfl) (fun Γ hC hQ hmn e1 e2 e3 e4 => by
    subst e1 e2 e3 e4
    exact wk_xdX0_cheapest z K hz hC hQ x1 x2 x3 σ h)
set_option maxHeartbeats 2000000 in
theorem wk_xdX0_lossOf_56 {Γ : sv_G} (z : XZ) (K : XK) (hz : SP (sg_s0 Γ) (sg_dA Γ) z K) (hC : sv_C Γ cX0_lossOf 5 RX0 (some .int) rm_X0_lossOf) {r0 : Int32 × MSt} (hQ : sv_RQ Γ (sv_pI r0.1 (SW (sg_dA Γ) z K r0.2)) 0 0) (rk_13 : Int32 → Int32 → MSt → Option (Int32 × MSt)) (hk_13 : ∀ (x1 : Int32) (x2 : Int32) (σ : MSt), rk_13 x1 x2 σ = some r0 → sv_V Γ (SW (sg_dA Γ) z K σ) 0 0 13 [(0, .ref (z.1 0)), (1, .int x1), (2, .int x2)] []) (rk_21 : Int32 → Int32 → Int32 → MSt → Option (Int32 × MSt)) (hk_21 : ∀ (x1 : Int32) (x2 : Int32) (x3 : Int32) (σ : MSt), rk_21 x1 x2 x3 σ = some r0 → sv_V Γ (SW (sg_dA Γ) z K σ) 0 0 21 [(0, .ref (z.1 0)), (1, .int x1), (2, .int x2), (3, .int x3)] []) (x1 : Int32) (x2 : Int32) (x3 : Int32) (t0 : Int32) (σ : MSt)  (h : xdX0_lossOf_56 K rk_13 rk_21 x1 x2 x3 t0 σ = some r0) : sv_V Γ (SW (sg_dA Γ) z K σ) 0 0 56 [(0, .ref (z.1 0)), (1, .int x1), (2, .int x2), (3, .int x3)] [.int t0] := by
  unfold xdX0_lossOf_56 at h
  refine sv_istore hC dX0_lossOf_56 (by decide) (lvq := [(4, .int t0), (0, .ref (z.1 0)), (1, .int x1), (2, .int x2), (3, .int x3)]) rfl ?_
  refine sv_aload_n hC dX0_lossOf_58 1 rfl rfl ?_
  refine sv_get hC in_X0 0 (sx_at (by decide)) rfl 9 (by decide) q236 rfl (v := .ref (z.1 6)) rfl dX0_lossOf_59 ?_
  refine sv_get hC in_X3 (5 + 1) (sx_p (p := 1) (by decide)) rfl 0 (by decide) q135 rfl (v := .ref (z.1 (7 + 2 * 1))) rfl dX0_lossOf_62 ?_
  refine sv_iload_n hC dX0_lossOf_65 3 rfl rfl ?_
  obtain ⟨j10, ej10, h⟩ := sv_ob h
  refine sv_aldr hC (7 + 2 * 1) 6 (sx_ps (p := 1) (by decide)) rfl rfl (j := j10) (b := z.1 (j10 + (21 + 42 * 1) + 20)) ej10 rfl dX0_lossOf_66 ?_
  refine sv_iload_n hC dX0_lossOf_67 4 rfl rfl ?_
  refine sv_iload hC dX0_lossOf_68 0 rfl ?_
  refine sv_if_eq hC (tgt := 87) dX0_lossOf_70 (by decide) (fun c11 => ?_) (fun c11 => ?_)
  · have h := sv_it c11 h
    refine sv_iconst hC (v := (-1)) dX0_lossOf_87 (by decide) ?_
    obtain ⟨j12, ej12, h⟩ := sv_ob h
    refine sv_bast hC (j10 + (21 + 42 * 1) + 20) (f := σ.2 (j10 + (21 + 42 * 1))) (sx_a (XA_ps (p := 1) (d := j10) (by decide) (sv_ixl ej10))) rfl (j := j12) ej12 (Xq := SW (sg_dA Γ) z K (ms_a σ (j10 + (21 + 42 * 1)) j12 (vp_nar .byte (-1)))) (sx_as (XA_ps (p := 1) (d := j10) (by decide) (sv_ixl ej10))) dX0_lossOf_88 ?_
    refine sv_iinc hC (v := x3 + 1) dX0_lossOf_89 4 rfl rfl (by decide) (lvq := [(3, .int (x3 + 1)), (4, .int t0), (0, .ref (z.1 0)), (1, .int x1), (2, .int x2)]) rfl ?_
    refine sv_goto hC (tgt := 21) dX0_lossOf_92 (by decide) ?_
    refine sv_loc [2, 3, 4, 0] (lvq := [(0, .ref (z.1 0)), (1, .int x1), (2, .int x2), (3, .int (x3 + 1))]) rfl ?_
    exact hk_21 x1 x2 (x3 + 1) (ms_a σ (j10 + (21 + 42 * 1)) j12 (vp_nar .byte (-1))) h
  · have h := sv_if c11 h
    refine sv_aload_n hC dX0_lossOf_73 1 rfl rfl ?_
    refine sv_get hC in_X0 0 (sx_at (by decide)) rfl 9 (by decide) q236 rfl (v := .ref (z.1 6)) rfl dX0_lossOf_74 ?_
    refine sv_get hC in_X3 (5 + 1) (sx_p (p := 1) (by decide)) rfl 0 (by decide) q135 rfl (v := .ref (z.1 (7 + 2 * 1))) rfl dX0_lossOf_77 ?_
    refine sv_iload_n hC dX0_lossOf_80 3 rfl rfl ?_
    obtain ⟨j13, ej13, h⟩ := sv_ob h
    refine sv_aldr hC (7 + 2 * 1) 6 (sx_ps (p := 1) (by decide)) rfl rfl (j := j13) (b := z.1 (j13 + (21 + 42 * 1) + 20)) ej13 rfl dX0_lossOf_81 ?_
    refine sv_iload_n hC dX0_lossOf_82 4 rfl rfl ?_
    obtain ⟨j14, ej14, h⟩ := sv_ob h
    refine sv_bald hC (j13 + (21 + 42 * 1) + 20) (f := σ.2 (j13 + (21 + 42 * 1))) (sx_a (XA_ps (p := 1) (d := j13) (by decide) (sv_ixl ej13))) rfl (j := j14) ej14 dX0_lossOf_83 ?_
    refine sv_goto hC (tgt := 88) dX0_lossOf_84 (by decide) ?_
    obtain ⟨j15, ej15, h⟩ := sv_ob h
    refine sv_bast hC (j10 + (21 + 42 * 1) + 20) (f := σ.2 (j10 + (21 + 42 * 1))) (sx_a (XA_ps (p := 1) (d := j10) (by decide) (sv_ixl ej10))) rfl (j := j15) ej15 (Xq := SW (sg_dA Γ) z K (ms_a σ (j10 + (21 + 42 * 1)) j15 (vp_nar .byte (σ.2 (j13 + (21 + 42 * 1)) j14)))) (sx_as (XA_ps (p := 1) (d := j10) (by decide) (sv_ixl ej10))) dX0_lossOf_88 ?_
    refine sv_iinc hC (v := x3 + 1) dX0_lossOf_89 4 rfl rfl (by decide) (lvq := [(3, .int (x3 + 1)), (4, .int t0), (0, .ref (z.1 0)), (1, .int x1), (2, .int x2)]) rfl ?_
    refine sv_goto hC (tgt := 21) dX0_lossOf_92 (by decide) ?_
    refine sv_loc [2, 3, 4, 0] (lvq := [(0, .ref (z.1 0)), (1, .int x1), (2, .int x2), (3, .int (x3 + 1))]) rfl ?_
    exact hk_21 x1 x2 (x3 + 1) (ms_a σ (j10 + (21 + 42 * 1)) j15 (vp_nar .byte (σ.2 (j13 + (21 + 42 * 1)) j14))) h
set_option maxHeartbeats 2000000 in
theorem wk_xdX0_lossOf_21b {Γ : sv_G} (z : XZ) (K : XK) (hz : SP (sg_s0 Γ) (sg_dA Γ) z K) (hC : sv_C Γ cX0_lossOf 5 RX0 (some .int) rm_X0_lossOf) {r0 : Int32 × MSt} (hQ : sv_RQ Γ (sv_pI r0.1 (SW (sg_dA Γ) z K r0.2)) 0 0) (rk_13 : Int32 → Int32 → MSt → Option (Int32 × MSt)) (hk_13 : ∀ (x1 : Int32) (x2 : Int32) (σ : MSt), rk_13 x1 x2 σ = some r0 → sv_V Γ (SW (sg_dA Γ) z K σ) 0 0 13 [(0, .ref (z.1 0)), (1, .int x1), (2, .int x2)] []) (rk_21 : Int32 → Int32 → Int32 → MSt → Option (Int32 × MSt)) (hk_21 : ∀ (x1 : Int32) (x2 : Int32) (x3 : Int32) (σ : MSt), rk_21 x1 x2 x3 σ = some r0 → sv_V Γ (SW (sg_dA Γ) z K σ) 0 0 21 [(0, .ref (z.1 0)), (1, .int x1), (2, .int x2), (3, .int x3)] []) (x1 : Int32) (x2 : Int32) (x3 : Int32) (σ : MSt)  (h : xdX0_lossOf_21b K rk_13 rk_21 x1 x2 x3 σ = some r0) : sv_V Γ (SW (sg_dA Γ) z K σ) 0 0 21 [(0, .ref (z.1 0)), (1, .int x1), (2, .int x2), (3, .int x3)] [] := by
  unfold xdX0_lossOf_21b at h
  refine sv_iload_n hC dX0_lossOf_21 3 rfl rfl ?_
  refine sv_iconst hC (v := 4) dX0_lossOf_22 (by decide) ?_
  refine sv_icmp_ge hC (tgt := 95) dX0_lossOf_23 (by decide) (fun c4 => ?_) (fun c4 => ?_)
  · have h := sv_it c4 h
    refine sv_iinc hC (v := x2 + 1) dX0_lossOf_95 2 rfl rfl (by decide) (lvq := [(2, .int (x2 + 1)), (0, .ref (z.1 0)), (1, .int x1), (3, .int x3)]) rfl ?_
    refine sv_goto hC (tgt := 13) dX0_lossOf_98 (by decide) ?_
    refine sv_loc [1, 2, 0] (lvq := [(0, .ref (z.1 0)), (1, .int x1), (2, .int (x2 + 1))]) rfl ?_
    exact hk_13 x1 (x2 + 1) σ h
  · have h := sv_if c4 h
    refine sv_aload_n hC dX0_lossOf_26 0 rfl rfl ?_
    refine sv_iload_n hC dX0_lossOf_27 3 rfl rfl ?_
    obtain ⟨r5, er5, h⟩ := sv_ob h
    refine sv_wVi (nn := 1) hC (met_xdX0_isField hC.F z K hz σ x3 er5) 0 1 (sx_at (by decide)) rfl rfl (lw_V q736 q738 qs6 q52 q739) (by decide +kernel) ⟨by decide, by decide⟩ ⟨rfl, rfl⟩ rfl rfl (Nat.le_of_ble_eq_true rfl) ⟨Nat.le_refl 0, Nat.le_refl 0⟩ dX0_lossOf_28 ?_
    refine sv_if_eq hC (tgt := 55) dX0_lossOf_31 (by decide) (fun c6 => ?_) (fun c6 => ?_)
    · have h := sv_it c6 h
      refine sv_iconst hC (v := 0) dX0_lossOf_55 (by decide) ?_
      exact wk_xdX0_lossOf_56 z K hz hC hQ rk_13 hk_13 rk_21 hk_21 x1 x2 x3 0 σ h
    · have h := sv_if c6 h
      refine sv_iload_n hC dX0_lossOf_34 1 rfl rfl ?_
      refine sv_aload_n hC dX0_lossOf_35 0 rfl rfl ?_
      refine sv_get hC in_X0 0 (sx_at (by decide)) rfl 0 (by decide) q222 rfl (v := .ref (z.1 1)) rfl dX0_lossOf_36 ?_
      refine sv_iload_n hC dX0_lossOf_39 3 rfl rfl ?_
      obtain ⟨j7, ej7, h⟩ := sv_ob h
      refine sv_aldq hC 1 3 (sx_at (by decide)) rfl (j := j7) ej7 dX0_lossOf_40 ?_
      obtain ⟨v8, ev8, h⟩ := sv_ob h
      refine sx_fget hC hz ev8 2 (by decide) q699 rfl dX0_lossOf_41 ?_
      refine sv_ishr hC dX0_lossOf_44 ?_
      refine sv_iconst hC (v := 1) dX0_lossOf_45 (by decide) ?_
      refine sv_iand hC dX0_lossOf_46 ?_
      refine sv_iconst hC (v := 1) dX0_lossOf_47 (by decide) ?_
      refine sv_icmp_ne hC (tgt := 55) dX0_lossOf_48 (by decide) (fun c9 => ?_) (fun c9 => ?_)
      · have h := sv_if c9 h
        refine sv_iconst hC (v := 0) dX0_lossOf_55 (by decide) ?_
        exact wk_xdX0_lossOf_56 z K hz hC hQ rk_13 hk_13 rk_21 hk_21 x1 x2 x3 0 σ h
      · have h := sv_it c9 h
        refine sv_iconst hC (v := 1) dX0_lossOf_51 (by decide) ?_
        refine sv_goto hC (tgt := 56) dX0_lossOf_52 (by decide) ?_
        exact wk_xdX0_lossOf_56 z K hz hC hQ rk_13 hk_13 rk_21 hk_21 x1 x2 x3 1 σ h
set_option maxHeartbeats 2000000 in
theorem wk_xdX0_lossOf_21 {Γ : sv_G} (z : XZ) (K : XK) (hz : SP (sg_s0 Γ) (sg_dA Γ) z K) (hC : sv_C Γ cX0_lossOf 5 RX0 (some .int) rm_X0_lossOf) {r0 : Int32 × MSt} (hQ : sv_RQ Γ (sv_pI r0.1 (SW (sg_dA Γ) z K r0.2)) 0 0) (rk_13 : Int32 → Int32 → MSt → Option (Int32 × MSt)) (hk_13 : ∀ (x1 : Int32) (x2 : Int32) (σ : MSt), rk_13 x1 x2 σ = some r0 → sv_V Γ (SW (sg_dA Γ) z K σ) 0 0 13 [(0, .ref (z.1 0)), (1, .int x1), (2, .int x2)] []) : ∀ (n : Nat) (x1 : Int32) (x2 : Int32) (x3 : Int32) (σ : MSt)  (h : xdX0_lossOf_21 K rk_13 n x1 x2 x3 σ = some r0), sv_V Γ (SW (sg_dA Γ) z K σ) 0 0 21 [(0, .ref (z.1 0)), (1, .int x1), (2, .int x2), (3, .int x3)] [] := by
  intro n
  induction n with
  | zero => intro x1 x2 x3 σ h; cases h
  | succ n ih => intro x1 x2 x3 σ h; exact wk_xdX0_lossOf_21b z K hz hC hQ rk_13 hk_13 (xdX0_lossOf_21 K rk_13 n) ih x1 x2 x3 σ h
set_option maxHeartbeats 2000000 in
theorem wk_xdX0_lossOf_13b {Γ : sv_G} (z : XZ) (K : XK) (hz : SP (sg_s0 Γ) (sg_dA Γ) z K) (hC : sv_C Γ cX0_lossOf 5 RX0 (some .int) rm_X0_lossOf) {r0 : Int32 × MSt} (hQ : sv_RQ Γ (sv_pI r0.1 (SW (sg_dA Γ) z K r0.2)) 0 0)  (rk_13 : Int32 → Int32 → MSt → Option (Int32 × MSt)) (hk_13 : ∀ (x1 : Int32) (x2 : Int32) (σ : MSt), rk_13 x1 x2 σ = some r0 → sv_V Γ (SW (sg_dA Γ) z K σ) 0 0 13 [(0, .ref (z.1 0)), (1, .int x1), (2, .int x2)] []) (x1 : Int32) (x2 : Int32) (σ : MSt)  (h : xdX0_lossOf_13b K rk_13 x1 x2 σ = some r0) : sv_V Γ (SW (sg_dA Γ) z K σ) 0 0 13 [(0, .ref (z.1 0)), (1, .int x1), (2, .int x2)] [] := by
  unfold xdX0_lossOf_13b at h
  refine sv_iload_n hC dX0_lossOf_13 2 rfl rfl ?_
  refine sv_bipush hC (v := 21) dX0_lossOf_14 (by decide) ?_
  refine sv_icmp_ge hC (tgt := 101) dX0_lossOf_16 (by decide) (fun c2 => ?_) (fun c2 => ?_)
  · have h := sv_it c2 h
    refine sv_aload_n hC dX0_lossOf_101 0 rfl rfl ?_
    refine sv_get hC in_X0 0 (sx_at (by decide)) rfl 10 (by decide) q237 rfl (v := .ref (z.1 11)) rfl dX0_lossOf_102 ?_
    refine sv_aload_n hC dX0_lossOf_105 0 rfl rfl ?_
    refine sv_get hC in_X0 0 (sx_at (by decide)) rfl 9 (by decide) q236 rfl (v := .ref (z.1 6)) rfl dX0_lossOf_106 ?_
    refine sv_aload_n hC dX0_lossOf_109 0 rfl rfl ?_
    refine sv_get hC in_X0 0 (sx_at (by decide)) rfl 7 (by decide) q234 rfl (v := .int (σ.1 7)) rfl dX0_lossOf_110 ?_
    obtain ⟨p3, ep3, h⟩ := sv_ob h
    refine sv_wVi (nn := 2) hC (met_xdX4_run hC.F z K hz 0 1 (by decide) (by decide) (σ.1 7) σ ep3) (11 + 0) 5 (sx_w (w := 0) (by decide)) rfl rfl (lw_V q779 q780 q781 q57 q782) (by decide +kernel) ⟨by decide, by decide⟩ ⟨rfl, rfl⟩ rfl rfl (Nat.le_of_ble_eq_true rfl) ⟨Nat.le_refl 0, Nat.le_refl 0⟩ dX0_lossOf_113 ?_
    exact sv_iret hC hQ dX0_lossOf_116 (by have e := Option.some.inj h; subst e; exact ⟨rfl, rfl⟩)
  · have h := sv_if c2 h
    refine sv_iconst hC (v := 0) dX0_lossOf_19 (by decide) ?_
    refine sv_istore_n hC dX0_lossOf_20 rfl (by decide) (lvq := [(3, .int 0), (0, .ref (z.1 0)), (1, .int x1), (2, .int x2)]) rfl ?_
    refine sv_loc [1, 2, 3, 0] (lvq := [(0, .ref (z.1 0)), (1, .int x1), (2, .int x2), (3, .int 0)]) rfl ?_
    exact wk_xdX0_lossOf_21 z K hz hC hQ rk_13 hk_13 sv_FU x1 x2 0 σ h
set_option maxHeartbeats 2000000 in
theorem wk_xdX0_lossOf_13 {Γ : sv_G} (z : XZ) (K : XK) (hz : SP (sg_s0 Γ) (sg_dA Γ) z K) (hC : sv_C Γ cX0_lossOf 5 RX0 (some .int) rm_X0_lossOf) {r0 : Int32 × MSt} (hQ : sv_RQ Γ (sv_pI r0.1 (SW (sg_dA Γ) z K r0.2)) 0 0)  : ∀ (n : Nat) (x1 : Int32) (x2 : Int32) (σ : MSt)  (h : xdX0_lossOf_13 K n x1 x2 σ = some r0), sv_V Γ (SW (sg_dA Γ) z K σ) 0 0 13 [(0, .ref (z.1 0)), (1, .int x1), (2, .int x2)] [] := by
  intro n
  induction n with
  | zero => intro x1 x2 σ h; cases h
  | succ n ih => intro x1 x2 σ h; exact wk_xdX0_lossOf_13b z K hz hC hQ (xdX0_lossOf_13 K n) ih x1 x2 σ h
set_option maxHeartbeats 2000000 in
theorem wk_xdX0_lossOf {Γ : sv_G} (z : XZ) (K : XK) (hz : SP (sg_s0 Γ) (sg_dA Γ) z K) (hC : sv_C Γ cX0_lossOf 5 RX0 (some .int) rm_X0_lossOf) {r0 : Int32 × MSt} (hQ : sv_RQ Γ (sv_pI r0.1 (SW (sg_dA Γ) z K r0.2)) 0 0) (x1 : Int32) (σ : MSt) (h : xdX0_lossOf K x1 σ = some r0) : sv_V Γ (SW (sg_dA Γ) z K σ) 0 0 0 [(0, .ref (z.1 0)), (1, .int x1)] [] := by
  unfold xdX0_lossOf at h
  refine sv_aload_n hC dX0_lossOf_0 0 rfl rfl ?_
  refine sv_get hC in_X0 0 (sx_at (by decide)) rfl 9 (by decide) q236 rfl (v := .ref (z.1 6)) rfl dX0_lossOf_1 ?_
  refine sv_aload_n hC dX0_lossOf_4 0 rfl rfl ?_
  refine sv_get hC in_X0 0 (sx_at (by decide)) rfl 8 (by decide) q235 rfl (v := .ref (z.1 5)) rfl dX0_lossOf_5 ?_
  obtain ⟨s1, es1, h⟩ := sv_ob h
  refine sv_wVv (nn := 1) hC (met_xdX3_copy hC.F z K hz 1 0 (by decide) (by decide) σ es1) (5 + 1) 4 (sx_p (p := 1) (by decide)) rfl rfl (lw_V q899 q900 q901 q55 q902) (by decide +kernel) ⟨by decide, by decide⟩ ⟨rfl, rfl⟩ rfl rfl (Nat.le_of_ble_eq_true rfl) ⟨Nat.le_refl 0, Nat.le_refl 0⟩ dX0_lossOf_8 ?_
  refine sv_iconst hC (v := 0) dX0_lossOf_11 (by decide) ?_
  refine sv_istore_n hC dX0_lossOf_12 rfl (by decide) (lvq := [(2, .int 0), (0, .ref (z.1 0)), (1, .int x1)]) rfl ?_
  refine sv_loc [1, 2, 0] (lvq := [(0, .ref (z.1 0)), (1, .int x1), (2, .int 0)]) rfl ?_
  exact wk_xdX0_lossOf_13 z K hz hC hQ sv_FU x1 0 s1 h
set_option maxHeartbeats 2000000 in
theorem met_xdX0_lossOf {l : Launch} {s0 : State} {D : va_G} {dA : Nat → ClassId} (hF : sv_F s0 D dA) (z : XZ) (K : XK) (hz : SP s0 dA z K) (x1 : Int32) (σ : MSt) {r0 : Int32 × MSt} (h : xdX0_lossOf K x1 σ = some r0) : sv_M l s0 D yX0_lossOf cX0_lossOf 5 (some .int) rm_X0_lossOf [.ref (z.1 0), .int x1] (SW dA z K σ) (sv_pI r0.1 (SW dA z K r0.2)) :=
  sv_met hF (by decide) (Nat.le_of_ble_eq_true rfl) (fun Γ hC hQ hmn e1 e2 e3 e4 => by
    subst e1 e2 e3 e4
    exact wk_xdX0_lossOf z K hz hC hQ x1 σ h)
set_option maxHeartbeats 2000000 in
theorem wk_xdX0_saved {Γ : sv_G} (z : XZ) (K : XK) (hz : SP (sg_s0 Γ) (sg_dA Γ) z K) (hC : sv_C Γ cX0_saved 2 RX0 (some .int) rm_X0_saved) {r0 : Int32 × MSt} (hQ : sv_RQ Γ (sv_pI r0.1 (SW (sg_dA Γ) z K r0.2)) 0 0) (x1 : Int32) (σ : MSt) (h : xdX0_saved K x1 σ = some r0) : sv_V Γ (SW (sg_dA Γ) z K σ) 0 0 0 [(0, .ref (z.1 0)), (1, .int x1)] [] := by
  unfold xdX0_saved at h
  refine sv_iload_n hC dX0_saved_0 1 rfl rfl ?_
  refine sv_i2l hC dX0_saved_1 ?_
  refine sv_lconst hC (v := 0) dX0_saved_2 (by decide) ?_
  refine sv_ldc2 hC dX0_saved_3 q913 ?_
  obtain ⟨r1, er1, h⟩ := sv_ob h
  refine sv_pSi (nn := 3) hC (met_xdX0_in hC.F x1.toInt64 0 15 er1) (lw_S q292 q293 q52 q294) (by decide +kernel) ⟨by decide, by decide⟩ ⟨rfl, rfl⟩ rfl rfl (Nat.le_of_ble_eq_true rfl) ⟨Nat.le_refl 0, Nat.le_refl 0⟩ dX0_saved_6 ?_
  refine sv_if_eq hC (tgt := 30) dX0_saved_9 (by decide) (fun c2 => ?_) (fun c2 => ?_)
  · have h := sv_it c2 h
    refine sv_bipush hC (v := (-3)) dX0_saved_30 (by decide) ?_
    exact sv_iret hC hQ dX0_saved_32 (by have e := Option.some.inj h; subst e; exact ⟨rfl, rfl⟩)
  · have h := sv_if c2 h
    refine sv_aload_n hC dX0_saved_12 0 rfl rfl ?_
    refine sv_iconst hC (v := 0) dX0_saved_13 (by decide) ?_
    obtain ⟨p3, ep3, h⟩ := sv_ob h
    refine sv_wVi (nn := 1) hC (met_xdX0_lossOf hC.F z K hz 0 σ ep3) 0 1 (sx_at (by decide)) rfl rfl (lw_V q914 q916 qs18 q52 q917) (by decide +kernel) ⟨by decide, by decide⟩ ⟨rfl, rfl⟩ rfl rfl (Nat.le_of_ble_eq_true rfl) ⟨Nat.le_refl 0, Nat.le_refl 0⟩ dX0_saved_14 ?_
    refine sv_aload_n hC dX0_saved_17 0 rfl rfl ?_
    refine sv_iload_n hC dX0_saved_18 1 rfl rfl ?_
    obtain ⟨p4, ep4, h⟩ := sv_ob h
    refine sv_wVi (nn := 1) hC (met_xdX0_lossOf hC.F z K hz x1 p3.2 ep4) 0 1 (sx_at (by decide)) rfl rfl (lw_V q914 q916 qs18 q52 q917) (by decide +kernel) ⟨by decide, by decide⟩ ⟨rfl, rfl⟩ rfl rfl (Nat.le_of_ble_eq_true rfl) ⟨Nat.le_refl 0, Nat.le_refl 0⟩ dX0_saved_19 ?_
    refine sv_isub hC dX0_saved_22 ?_
    refine sv_ldcw hC dX0_saved_23 q918 ?_
    refine sv_iadd hC dX0_saved_26 ?_
    refine sv_goto hC (tgt := 32) dX0_saved_27 (by decide) ?_
    exact sv_iret hC hQ dX0_saved_32 (by have e := Option.some.inj h; subst e; exact ⟨rfl, rfl⟩)
set_option maxHeartbeats 2000000 in
theorem met_xdX0_saved {l : Launch} {s0 : State} {D : va_G} {dA : Nat → ClassId} (hF : sv_F s0 D dA) (z : XZ) (K : XK) (hz : SP s0 dA z K) (x1 : Int32) (σ : MSt) {r0 : Int32 × MSt} (h : xdX0_saved K x1 σ = some r0) : sv_M l s0 D yX0_saved cX0_saved 2 (some .int) rm_X0_saved [.ref (z.1 0), .int x1] (SW dA z K σ) (sv_pI r0.1 (SW dA z K r0.2)) :=
  sv_met hF (by decide) (Nat.le_of_ble_eq_true rfl) (fun Γ hC hQ hmn e1 e2 e3 e4 => by
    subst e1 e2 e3 e4
    exact wk_xdX0_saved z K hz hC hQ x1 σ h)
set_option maxHeartbeats 2000000 in
theorem wk_jd_J15_bitCount {Γ : sv_G}  (hC : sv_C Γ cJ15_bitCount 1 RJ15 (some .int) rm_J15_bitCount) {r0 : Int32} (hQ : sv_RQ Γ (sv_pI r0 []) 0 0) (x0 : Int32) (h : jd_J15_bitCount x0 = some r0) : sv_V Γ ([]) 0 0 0 [(0, .int x0)] [] := by
  unfold jd_J15_bitCount at h
  refine sv_iload_n hC dJ15_bitCount_0 0 rfl rfl ?_
  refine sv_iload_n hC dJ15_bitCount_1 0 rfl rfl ?_
  refine sv_iconst hC (v := 1) dJ15_bitCount_2 (by decide) ?_
  refine sv_iushr hC dJ15_bitCount_3 ?_
  refine sv_ldcw hC dJ15_bitCount_4 q926 ?_
  refine sv_iand hC dJ15_bitCount_7 ?_
  refine sv_isub hC dJ15_bitCount_8 ?_
  refine sv_istore_n hC dJ15_bitCount_9 rfl (by decide) (lvq := [(0, .int (x0 - (((x0.toUInt32 >>> ((1 : Int32).toUInt32 &&& Int32.toUInt32 31)).toInt32) &&& 1431655765)))]) rfl ?_
  refine sv_iload_n hC dJ15_bitCount_10 0 rfl rfl ?_
  refine sv_ldcw hC dJ15_bitCount_11 q927 ?_
  refine sv_iand hC dJ15_bitCount_14 ?_
  refine sv_iload_n hC dJ15_bitCount_15 0 rfl rfl ?_
  refine sv_iconst hC (v := 2) dJ15_bitCount_16 (by decide) ?_
  refine sv_iushr hC dJ15_bitCount_17 ?_
  refine sv_ldcw hC dJ15_bitCount_18 q927 ?_
  refine sv_iand hC dJ15_bitCount_21 ?_
  refine sv_iadd hC dJ15_bitCount_22 ?_
  refine sv_istore_n hC dJ15_bitCount_23 rfl (by decide) (lvq := [(0, .int (((x0 - (((x0.toUInt32 >>> ((1 : Int32).toUInt32 &&& Int32.toUInt32 31)).toInt32) &&& 1431655765)) &&& 858993459) + ((((x0 - (((x0.toUInt32 >>> ((1 : Int32).toUInt32 &&& Int32.toUInt32 31)).toInt32) &&& 1431655765)).toUInt32 >>> ((2 : Int32).toUInt32 &&& Int32.toUInt32 31)).toInt32) &&& 858993459)))]) rfl ?_
  refine sv_iload_n hC dJ15_bitCount_24 0 rfl rfl ?_
  refine sv_iload_n hC dJ15_bitCount_25 0 rfl rfl ?_
  refine sv_iconst hC (v := 4) dJ15_bitCount_26 (by decide) ?_
  refine sv_iushr hC dJ15_bitCount_27 ?_
  refine sv_iadd hC dJ15_bitCount_28 ?_
  refine sv_ldcw hC dJ15_bitCount_29 q928 ?_
  refine sv_iand hC dJ15_bitCount_32 ?_
  refine sv_istore_n hC dJ15_bitCount_33 rfl (by decide) (lvq := [(0, .int (((((x0 - (((x0.toUInt32 >>> ((1 : Int32).toUInt32 &&& Int32.toUInt32 31)).toInt32) &&& 1431655765)) &&& 858993459) + ((((x0 - (((x0.toUInt32 >>> ((1 : Int32).toUInt32 &&& Int32.toUInt32 31)).toInt32) &&& 1431655765)).toUInt32 >>> ((2 : Int32).toUInt32 &&& Int32.toUInt32 31)).toInt32) &&& 858993459)) + (((((x0 - (((x0.toUInt32 >>> ((1 : Int32).toUInt32 &&& Int32.toUInt32 31)).toInt32) &&& 1431655765)) &&& 858993459) + ((((x0 - (((x0.toUInt32 >>> ((1 : Int32).toUInt32 &&& Int32.toUInt32 31)).toInt32) &&& 1431655765)).toUInt32 >>> ((2 : Int32).toUInt32 &&& Int32.toUInt32 31)).toInt32) &&& 858993459)).toUInt32 >>> ((4 : Int32).toUInt32 &&& Int32.toUInt32 31)).toInt32)) &&& 252645135))]) rfl ?_
  refine sv_iload_n hC dJ15_bitCount_34 0 rfl rfl ?_
  refine sv_iload_n hC dJ15_bitCount_35 0 rfl rfl ?_
  refine sv_bipush hC (v := 8) dJ15_bitCount_36 (by decide) ?_
  refine sv_iushr hC dJ15_bitCount_38 ?_
  refine sv_iadd hC dJ15_bitCount_39 ?_
  refine sv_istore_n hC dJ15_bitCount_40 rfl (by decide) (lvq := [(0, .int ((((((x0 - (((x0.toUInt32 >>> ((1 : Int32).toUInt32 &&& Int32.toUInt32 31)).toInt32) &&& 1431655765)) &&& 858993459) + ((((x0 - (((x0.toUInt32 >>> ((1 : Int32).toUInt32 &&& Int32.toUInt32 31)).toInt32) &&& 1431655765)).toUInt32 >>> ((2 : Int32).toUInt32 &&& Int32.toUInt32 31)).toInt32) &&& 858993459)) + (((((x0 - (((x0.toUInt32 >>> ((1 : Int32).toUInt32 &&& Int32.toUInt32 31)).toInt32) &&& 1431655765)) &&& 858993459) + ((((x0 - (((x0.toUInt32 >>> ((1 : Int32).toUInt32 &&& Int32.toUInt32 31)).toInt32) &&& 1431655765)).toUInt32 >>> ((2 : Int32).toUInt32 &&& Int32.toUInt32 31)).toInt32) &&& 858993459)).toUInt32 >>> ((4 : Int32).toUInt32 &&& Int32.toUInt32 31)).toInt32)) &&& 252645135) + (((((((x0 - (((x0.toUInt32 >>> ((1 : Int32).toUInt32 &&& Int32.toUInt32 31)).toInt32) &&& 1431655765)) &&& 858993459) + ((((x0 - (((x0.toUInt32 >>> ((1 : Int32).toUInt32 &&& Int32.toUInt32 31)).toInt32) &&& 1431655765)).toUInt32 >>> ((2 : Int32).toUInt32 &&& Int32.toUInt32 31)).toInt32) &&& 858993459)) + (((((x0 - (((x0.toUInt32 >>> ((1 : Int32).toUInt32 &&& Int32.toUInt32 31)).toInt32) &&& 1431655765)) &&& 858993459) + ((((x0 - (((x0.toUInt32 >>> ((1 : Int32).toUInt32 &&& Int32.toUInt32 31)).toInt32) &&& 1431655765)).toUInt32 >>> ((2 : Int32).toUInt32 &&& Int32.toUInt32 31)).toInt32) &&& 858993459)).toUInt32 >>> ((4 : Int32).toUInt32 &&& Int32.toUInt32 31)).toInt32)) &&& 252645135).toUInt32 >>> ((8 : Int32).toUInt32 &&& Int32.toUInt32 31)).toInt32)))]) rfl ?_
  refine sv_iload_n hC dJ15_bitCount_41 0 rfl rfl ?_
  refine sv_iload_n hC dJ15_bitCount_42 0 rfl rfl ?_
  refine sv_bipush hC (v := 16) dJ15_bitCount_43 (by decide) ?_
  refine sv_iushr hC dJ15_bitCount_45 ?_
  refine sv_iadd hC dJ15_bitCount_46 ?_
  refine sv_istore_n hC dJ15_bitCount_47 rfl (by decide) (lvq := [(0, .int (((((((x0 - (((x0.toUInt32 >>> ((1 : Int32).toUInt32 &&& Int32.toUInt32 31)).toInt32) &&& 1431655765)) &&& 858993459) + ((((x0 - (((x0.toUInt32 >>> ((1 : Int32).toUInt32 &&& Int32.toUInt32 31)).toInt32) &&& 1431655765)).toUInt32 >>> ((2 : Int32).toUInt32 &&& Int32.toUInt32 31)).toInt32) &&& 858993459)) + (((((x0 - (((x0.toUInt32 >>> ((1 : Int32).toUInt32 &&& Int32.toUInt32 31)).toInt32) &&& 1431655765)) &&& 858993459) + ((((x0 - (((x0.toUInt32 >>> ((1 : Int32).toUInt32 &&& Int32.toUInt32 31)).toInt32) &&& 1431655765)).toUInt32 >>> ((2 : Int32).toUInt32 &&& Int32.toUInt32 31)).toInt32) &&& 858993459)).toUInt32 >>> ((4 : Int32).toUInt32 &&& Int32.toUInt32 31)).toInt32)) &&& 252645135) + (((((((x0 - (((x0.toUInt32 >>> ((1 : Int32).toUInt32 &&& Int32.toUInt32 31)).toInt32) &&& 1431655765)) &&& 858993459) + ((((x0 - (((x0.toUInt32 >>> ((1 : Int32).toUInt32 &&& Int32.toUInt32 31)).toInt32) &&& 1431655765)).toUInt32 >>> ((2 : Int32).toUInt32 &&& Int32.toUInt32 31)).toInt32) &&& 858993459)) + (((((x0 - (((x0.toUInt32 >>> ((1 : Int32).toUInt32 &&& Int32.toUInt32 31)).toInt32) &&& 1431655765)) &&& 858993459) + ((((x0 - (((x0.toUInt32 >>> ((1 : Int32).toUInt32 &&& Int32.toUInt32 31)).toInt32) &&& 1431655765)).toUInt32 >>> ((2 : Int32).toUInt32 &&& Int32.toUInt32 31)).toInt32) &&& 858993459)).toUInt32 >>> ((4 : Int32).toUInt32 &&& Int32.toUInt32 31)).toInt32)) &&& 252645135).toUInt32 >>> ((8 : Int32).toUInt32 &&& Int32.toUInt32 31)).toInt32)) + ((((((((x0 - (((x0.toUInt32 >>> ((1 : Int32).toUInt32 &&& Int32.toUInt32 31)).toInt32) &&& 1431655765)) &&& 858993459) + ((((x0 - (((x0.toUInt32 >>> ((1 : Int32).toUInt32 &&& Int32.toUInt32 31)).toInt32) &&& 1431655765)).toUInt32 >>> ((2 : Int32).toUInt32 &&& Int32.toUInt32 31)).toInt32) &&& 858993459)) + (((((x0 - (((x0.toUInt32 >>> ((1 : Int32).toUInt32 &&& Int32.toUInt32 31)).toInt32) &&& 1431655765)) &&& 858993459) + ((((x0 - (((x0.toUInt32 >>> ((1 : Int32).toUInt32 &&& Int32.toUInt32 31)).toInt32) &&& 1431655765)).toUInt32 >>> ((2 : Int32).toUInt32 &&& Int32.toUInt32 31)).toInt32) &&& 858993459)).toUInt32 >>> ((4 : Int32).toUInt32 &&& Int32.toUInt32 31)).toInt32)) &&& 252645135) + (((((((x0 - (((x0.toUInt32 >>> ((1 : Int32).toUInt32 &&& Int32.toUInt32 31)).toInt32) &&& 1431655765)) &&& 858993459) + ((((x0 - (((x0.toUInt32 >>> ((1 : Int32).toUInt32 &&& Int32.toUInt32 31)).toInt32) &&& 1431655765)).toUInt32 >>> ((2 : Int32).toUInt32 &&& Int32.toUInt32 31)).toInt32) &&& 858993459)) + (((((x0 - (((x0.toUInt32 >>> ((1 : Int32).toUInt32 &&& Int32.toUInt32 31)).toInt32) &&& 1431655765)) &&& 858993459) + ((((x0 - (((x0.toUInt32 >>> ((1 : Int32).toUInt32 &&& Int32.toUInt32 31)).toInt32) &&& 1431655765)).toUInt32 >>> ((2 : Int32).toUInt32 &&& Int32.toUInt32 31)).toInt32) &&& 858993459)).toUInt32 >>> ((4 : Int32).toUInt32 &&& Int32.toUInt32 31)).toInt32)) &&& 252645135).toUInt32 >>> ((8 : Int32).toUInt32 &&& Int32.toUInt32 31)).toInt32)).toUInt32 >>> ((16 : Int32).toUInt32 &&& Int32.toUInt32 31)).toInt32)))]) rfl ?_
  refine sv_iload_n hC dJ15_bitCount_48 0 rfl rfl ?_
  refine sv_bipush hC (v := 63) dJ15_bitCount_49 (by decide) ?_
  refine sv_iand hC dJ15_bitCount_51 ?_
  exact sv_iret hC hQ dJ15_bitCount_52 (by have e := Option.some.inj h; subst e; exact ⟨rfl, rfl⟩)
set_option maxHeartbeats 2000000 in
theorem met_jd_J15_bitCount {l : Launch} {s0 : State} {D : va_G} {dA : Nat → ClassId} (hF : sv_F s0 D dA)  (x0 : Int32) {r0 : Int32} (h : jd_J15_bitCount x0 = some r0) : sv_M l s0 D yJ15_bitCount cJ15_bitCount 1 (some .int) rm_J15_bitCount [.int x0] ([]) (sv_pI r0 []) :=
  sv_met hF (by decide) (Nat.le_of_ble_eq_true rfl) (fun Γ hC hQ hmn e1 e2 e3 e4 => by
    subst e1 e2 e3 e4
    exact wk_jd_J15_bitCount hC hQ x0 h)
set_option maxHeartbeats 2000000 in
theorem wk_xdX0_part_6b {Γ : sv_G}  (hC : sv_C Γ cX0_part 11 RX0 (some .long) rm_X0_part) {r0 : Int64} (hQ : sv_RQ Γ (sv_pL r0 []) 0 0)  (rk_6 : Int64 → Int64 → Int32 → Int64 → Int64 → Option Int64) (hk_6 : ∀ (x0 : Int64) (x2 : Int64) (x4 : Int32) (x5 : Int64) (x7 : Int64), rk_6 x0 x2 x4 x5 x7 = some r0 → sv_V Γ ([]) 0 0 6 [(0, .long x0), (2, .long x2), (4, .int x4), (5, .long x5), (7, .long x7)] []) (x0 : Int64) (x2 : Int64) (x4 : Int32) (x5 : Int64) (x7 : Int64)  (h : xdX0_part_6b rk_6 x0 x2 x4 x5 x7 = some r0) : sv_V Γ ([]) 0 0 6 [(0, .long x0), (2, .long x2), (4, .int x4), (5, .long x5), (7, .long x7)] [] := by
  unfold xdX0_part_6b at h
  refine sv_lload hC dX0_part_6 4 rfl ?_
  refine sv_lconst hC (v := 0) dX0_part_8 (by decide) ?_
  refine sv_lcmp hC dX0_part_9 ?_
  refine sv_if_eq hC (tgt := 31) dX0_part_10 (by decide) (fun c1 => ?_) (fun c1 => ?_)
  · have h := sv_it c1 h
    refine sv_iload hC dX0_part_31 2 rfl ?_
    refine sv_if_ne hC (tgt := 40) dX0_part_33 (by decide) (fun c2 => ?_) (fun c2 => ?_)
    · have h := sv_if c2 h
      refine sv_lload_n hC dX0_part_40 1 rfl rfl ?_
      refine sv_lload hC dX0_part_41 3 rfl ?_
      obtain ⟨gd, h⟩ := sv_gn h
      refine sv_ldiv hC dX0_part_43 gd ?_
      exact sv_lret hC hQ dX0_part_44 (by have e := Option.some.inj h; subst e; exact ⟨rfl, rfl⟩)
    · have h := sv_it c2 h
      refine sv_lload_n hC dX0_part_36 0 rfl rfl ?_
      refine sv_goto hC (tgt := 41) dX0_part_37 (by decide) ?_
      refine sv_lload hC dX0_part_41 3 rfl ?_
      obtain ⟨gd, h⟩ := sv_gn h
      refine sv_ldiv hC dX0_part_43 gd ?_
      exact sv_lret hC hQ dX0_part_44 (by have e := Option.some.inj h; subst e; exact ⟨rfl, rfl⟩)
  · have h := sv_if c1 h
    refine sv_lload hC dX0_part_13 3 rfl ?_
    refine sv_lload hC dX0_part_15 4 rfl ?_
    obtain ⟨gd, h⟩ := sv_gn h
    refine sv_lrem hC dX0_part_17 gd ?_
    refine sv_lstore hC dX0_part_18 (by decide) (lvq := [(9, .long (x5 - x5 / x7 * x7)), (0, .long x0), (2, .long x2), (4, .int x4), (5, .long x5), (7, .long x7)]) rfl ?_
    refine sv_lload hC dX0_part_20 5 rfl ?_
    refine sv_lstore hC dX0_part_22 (by decide) (lvq := [(5, .long x7), (9, .long (x5 - x5 / x7 * x7)), (0, .long x0), (2, .long x2), (4, .int x4), (7, .long x7)]) rfl ?_
    refine sv_lload hC dX0_part_24 1 rfl ?_
    refine sv_lstore hC dX0_part_26 (by decide) (lvq := [(7, .long (x5 - x5 / x7 * x7)), (5, .long x7), (9, .long (x5 - x5 / x7 * x7)), (0, .long x0), (2, .long x2), (4, .int x4)]) rfl ?_
    refine sv_goto hC (tgt := 6) dX0_part_28 (by decide) ?_
    refine sv_loc [3, 4, 5, 1, 0] (lvq := [(0, .long x0), (2, .long x2), (4, .int x4), (5, .long x7), (7, .long (x5 - x5 / x7 * x7))]) rfl ?_
    exact hk_6 x0 x2 x4 x7 (x5 - x5 / x7 * x7) h
set_option maxHeartbeats 2000000 in
theorem wk_xdX0_part_6 {Γ : sv_G}  (hC : sv_C Γ cX0_part 11 RX0 (some .long) rm_X0_part) {r0 : Int64} (hQ : sv_RQ Γ (sv_pL r0 []) 0 0)  : ∀ (n : Nat) (x0 : Int64) (x2 : Int64) (x4 : Int32) (x5 : Int64) (x7 : Int64)  (h : xdX0_part_6 n x0 x2 x4 x5 x7 = some r0), sv_V Γ ([]) 0 0 6 [(0, .long x0), (2, .long x2), (4, .int x4), (5, .long x5), (7, .long x7)] [] := by
  intro n
  induction n with
  | zero => intro x0 x2 x4 x5 x7 h; cases h
  | succ n ih => intro x0 x2 x4 x5 x7 h; exact wk_xdX0_part_6b hC hQ (xdX0_part_6 n) ih x0 x2 x4 x5 x7 h
set_option maxHeartbeats 2000000 in
theorem wk_xdX0_part {Γ : sv_G}  (hC : sv_C Γ cX0_part 11 RX0 (some .long) rm_X0_part) {r0 : Int64} (hQ : sv_RQ Γ (sv_pL r0 []) 0 0) (x0 : Int64) (x2 : Int64) (x4 : Int32) (h : xdX0_part x0 x2 x4 = some r0) : sv_V Γ ([]) 0 0 0 [(0, .long x0), (2, .long x2), (4, .int x4)] [] := by
  unfold xdX0_part at h
  refine sv_lload_n hC dX0_part_0 0 rfl rfl ?_
  refine sv_lstore hC dX0_part_1 (by decide) (lvq := [(5, .long x0), (0, .long x0), (2, .long x2), (4, .int x4)]) rfl ?_
  refine sv_lload_n hC dX0_part_3 2 rfl rfl ?_
  refine sv_lstore hC dX0_part_4 (by decide) (lvq := [(7, .long x2), (5, .long x0), (0, .long x0), (2, .long x2), (4, .int x4)]) rfl ?_
  refine sv_loc [2, 3, 4, 1, 0] (lvq := [(0, .long x0), (2, .long x2), (4, .int x4), (5, .long x0), (7, .long x2)]) rfl ?_
  exact wk_xdX0_part_6 hC hQ sv_FU x0 x2 x4 x0 x2 h
set_option maxHeartbeats 2000000 in
theorem met_xdX0_part {l : Launch} {s0 : State} {D : va_G} {dA : Nat → ClassId} (hF : sv_F s0 D dA)  (x0 : Int64) (x2 : Int64) (x4 : Int32) {r0 : Int64} (h : xdX0_part x0 x2 x4 = some r0) : sv_M l s0 D yX0_part cX0_part 11 (some .long) rm_X0_part [.long x0, .long x2, .int x4] ([]) (sv_pL r0 []) :=
  sv_met hF (by decide) (Nat.le_of_ble_eq_true rfl) (fun Γ hC hQ hmn e1 e2 e3 e4 => by
    subst e1 e2 e3 e4
    exact wk_xdX0_part hC hQ x0 x2 x4 h)
set_option maxHeartbeats 2000000 in
theorem wk_xdX0_fair_73 {Γ : sv_G} (z : XZ) (K : XK) (hz : SP (sg_s0 Γ) (sg_dA Γ) z K) (hC : sv_C Γ cX0_fair 7 RX0 (some .int) rm_X0_fair) {r0 : Int32 × MSt} (hQ : sv_RQ Γ (sv_pI r0.1 (SW (sg_dA Γ) z K r0.2)) 0 0) (rk_33 : Int32 → Int32 → Int32 → Int32 → MSt → Option (Int32 × MSt)) (hk_33 : ∀ (x1 : Int32) (x2 : Int32) (x3 : Int32) (x4 : Int32) (σ : MSt), rk_33 x1 x2 x3 x4 σ = some r0 → sv_V Γ (SW (sg_dA Γ) z K σ) 0 0 33 [(0, .ref (z.1 0)), (1, .int x1), (2, .int x2), (3, .int x3), (4, .int x4)] []) (x1 : Int32) (x2 : Int32) (x3 : Int32) (x4 : Int32) (t0 : Int32) (σ : MSt)  (h : xdX0_fair_73 K rk_33 x1 x2 x3 x4 t0 σ = some r0) : sv_V Γ (SW (sg_dA Γ) z K σ) 0 0 73 [(0, .ref (z.1 0)), (1, .int x1), (2, .int x2), (3, .int x3), (4, .int x4)] [.int t0] := by
  unfold xdX0_fair_73 at h
  refine sv_istore hC dX0_fair_73 (by decide) (lvq := [(6, .int t0), (0, .ref (z.1 0)), (1, .int x1), (2, .int x2), (3, .int x3), (4, .int x4)]) rfl ?_
  refine sv_iload_n hC dX0_fair_75 4 rfl rfl ?_
  refine sv_iload hC dX0_fair_76 0 rfl ?_
  refine sv_aload_n hC dX0_fair_78 1 rfl rfl ?_
  refine sv_iload hC dX0_fair_79 5 rfl ?_
  obtain ⟨p11, ep11, h⟩ := sv_ob h
  refine sv_wVi (nn := 1) hC (met_xdX0_lossOf hC.F z K hz x4 σ ep11) 0 1 (sx_at (by decide)) rfl rfl (lw_V q914 q916 qs18 q52 q917) (by decide +kernel) ⟨by decide, by decide⟩ ⟨rfl, rfl⟩ rfl rfl (Nat.le_of_ble_eq_true rfl) ⟨Nat.le_refl 0, Nat.le_refl 0⟩ dX0_fair_81 ?_
  refine sv_aload_n hC dX0_fair_84 1 rfl rfl ?_
  refine sv_iload hC dX0_fair_85 5 rfl ?_
  refine sv_iconst hC (v := 1) dX0_fair_87 (by decide) ?_
  refine sv_iload_n hC dX0_fair_88 2 rfl rfl ?_
  refine sv_ishl hC dX0_fair_89 ?_
  refine sv_ior hC dX0_fair_90 ?_
  obtain ⟨p12, ep12, h⟩ := sv_ob h
  refine sv_wVi (nn := 1) hC (met_xdX0_lossOf hC.F z K hz (x4 ||| ((1 : Int32) <<< (x1 &&& 31))) p11.2 ep12) 0 1 (sx_at (by decide)) rfl rfl (lw_V q914 q916 qs18 q52 q917) (by decide +kernel) ⟨by decide, by decide⟩ ⟨rfl, rfl⟩ rfl rfl (Nat.le_of_ble_eq_true rfl) ⟨Nat.le_refl 0, Nat.le_refl 0⟩ dX0_fair_91 ?_
  refine sv_isub hC dX0_fair_94 ?_
  refine sv_imul hC dX0_fair_95 ?_
  refine sv_iadd hC dX0_fair_96 ?_
  refine sv_istore_n hC dX0_fair_97 rfl (by decide) (lvq := [(3, .int (x3 + (t0 * (p11.1 - p12.1)))), (6, .int t0), (0, .ref (z.1 0)), (1, .int x1), (2, .int x2), (4, .int x4)]) rfl ?_
  refine sv_iinc hC (v := x4 + 1) dX0_fair_98 5 rfl rfl (by decide) (lvq := [(4, .int (x4 + 1)), (3, .int (x3 + (t0 * (p11.1 - p12.1)))), (6, .int t0), (0, .ref (z.1 0)), (1, .int x1), (2, .int x2)]) rfl ?_
  refine sv_goto hC (tgt := 33) dX0_fair_101 (by decide) ?_
  refine sv_loc [3, 4, 5, 1, 0] (lvq := [(0, .ref (z.1 0)), (1, .int x1), (2, .int x2), (3, .int (x3 + (t0 * (p11.1 - p12.1)))), (4, .int (x4 + 1))]) rfl ?_
  exact hk_33 x1 x2 (x3 + (t0 * (p11.1 - p12.1))) (x4 + 1) p12.2 h
set_option maxHeartbeats 2000000 in
theorem wk_xdX0_fair_33b {Γ : sv_G} (z : XZ) (K : XK) (hz : SP (sg_s0 Γ) (sg_dA Γ) z K) (hC : sv_C Γ cX0_fair 7 RX0 (some .int) rm_X0_fair) {r0 : Int32 × MSt} (hQ : sv_RQ Γ (sv_pI r0.1 (SW (sg_dA Γ) z K r0.2)) 0 0)  (rk_33 : Int32 → Int32 → Int32 → Int32 → MSt → Option (Int32 × MSt)) (hk_33 : ∀ (x1 : Int32) (x2 : Int32) (x3 : Int32) (x4 : Int32) (σ : MSt), rk_33 x1 x2 x3 x4 σ = some r0 → sv_V Γ (SW (sg_dA Γ) z K σ) 0 0 33 [(0, .ref (z.1 0)), (1, .int x1), (2, .int x2), (3, .int x3), (4, .int x4)] []) (x1 : Int32) (x2 : Int32) (x3 : Int32) (x4 : Int32) (σ : MSt)  (h : xdX0_fair_33b K rk_33 x1 x2 x3 x4 σ = some r0) : sv_V Γ (SW (sg_dA Γ) z K σ) 0 0 33 [(0, .ref (z.1 0)), (1, .int x1), (2, .int x2), (3, .int x3), (4, .int x4)] [] := by
  unfold xdX0_fair_33b at h
  refine sv_iload hC dX0_fair_33 4 rfl ?_
  refine sv_bipush hC (v := 15) dX0_fair_35 (by decide) ?_
  refine sv_icmp_gt hC (tgt := 104) dX0_fair_37 (by decide) (fun c5 => ?_) (fun c5 => ?_)
  · have h := sv_it c5 h
    refine sv_iload_n hC dX0_fair_104 3 rfl rfl ?_
    refine sv_ldcw hC dX0_fair_105 q929 ?_
    refine sv_iadd hC dX0_fair_108 ?_
    refine sv_i2l hC dX0_fair_109 ?_
    refine sv_ldc2 hC dX0_fair_110 q930 ?_
    refine sv_iload_n hC dX0_fair_113 2 rfl rfl ?_
    obtain ⟨r6, er6, h⟩ := sv_ob h
    refine sv_pSl (nn := 3) hC (met_xdX0_part hC.F ((x3 + 2400000).toInt64) 24 x2 er6) (lw_S q931 q932 q52 q933) (by decide +kernel) ⟨by decide, by decide⟩ ⟨rfl, rfl⟩ rfl rfl (Nat.le_of_ble_eq_true rfl) ⟨Nat.le_refl 0, Nat.le_refl 0⟩ dX0_fair_114 ?_
    refine sv_l2i hC dX0_fair_117 ?_
    exact sv_iret hC hQ dX0_fair_118 (by have e := Option.some.inj h; subst e; exact ⟨rfl, rfl⟩)
  · have h := sv_if c5 h
    refine sv_iload hC dX0_fair_40 4 rfl ?_
    refine sv_iload_n hC dX0_fair_42 1 rfl rfl ?_
    refine sv_ishr hC dX0_fair_43 ?_
    refine sv_iconst hC (v := 1) dX0_fair_44 (by decide) ?_
    refine sv_iand hC dX0_fair_45 ?_
    refine sv_if_ne hC (tgt := 98) dX0_fair_46 (by decide) (fun c7 => ?_) (fun c7 => ?_)
    · have h := sv_if c7 h
      refine sv_iinc hC (v := x4 + 1) dX0_fair_98 4 rfl rfl (by decide) (lvq := [(4, .int (x4 + 1)), (0, .ref (z.1 0)), (1, .int x1), (2, .int x2), (3, .int x3)]) rfl ?_
      refine sv_goto hC (tgt := 33) dX0_fair_101 (by decide) ?_
      refine sv_loc [1, 2, 3, 4, 0] (lvq := [(0, .ref (z.1 0)), (1, .int x1), (2, .int x2), (3, .int x3), (4, .int (x4 + 1))]) rfl ?_
      exact hk_33 x1 x2 x3 (x4 + 1) σ h
    · have h := sv_it c7 h
      refine sv_iload hC dX0_fair_49 4 rfl ?_
      obtain ⟨r8, er8, h⟩ := sv_ob h
      refine sv_pSi (nn := 1) hC (met_jd_J15_bitCount hC.F x4 er8) (lw_S q923 q924 q77 q925) (by decide +kernel) ⟨by decide, by decide⟩ ⟨rfl, rfl⟩ rfl rfl (Nat.le_of_ble_eq_true rfl) ⟨Nat.le_refl 0, Nat.le_refl 0⟩ dX0_fair_51 ?_
      refine sv_istore hC dX0_fair_54 (by decide) (lvq := [(5, .int r8), (0, .ref (z.1 0)), (1, .int x1), (2, .int x2), (3, .int x3), (4, .int x4)]) rfl ?_
      refine sv_iload hC dX0_fair_56 0 rfl ?_
      refine sv_if_eq hC (tgt := 67) dX0_fair_58 (by decide) (fun c9 => ?_) (fun c9 => ?_)
      · have h := sv_it c9 h
        refine sv_bipush hC (v := 6) dX0_fair_67 (by decide) ?_
        refine sv_goto hC (tgt := 73) dX0_fair_69 (by decide) ?_
        refine sv_loc [1, 2, 3, 4, 5] (lvq := [(0, .ref (z.1 0)), (1, .int x1), (2, .int x2), (3, .int x3), (4, .int x4)]) rfl ?_
        exact wk_xdX0_fair_73 z K hz hC hQ rk_33 hk_33 x1 x2 x3 x4 6 σ h
      · have h := sv_if c9 h
        refine sv_iload hC dX0_fair_61 0 rfl ?_
        refine sv_iconst hC (v := 3) dX0_fair_63 (by decide) ?_
        refine sv_icmp_ne hC (tgt := 72) dX0_fair_64 (by decide) (fun c10 => ?_) (fun c10 => ?_)
        · have h := sv_if c10 h
          refine sv_iconst hC (v := 2) dX0_fair_72 (by decide) ?_
          refine sv_loc [1, 2, 3, 4, 5] (lvq := [(0, .ref (z.1 0)), (1, .int x1), (2, .int x2), (3, .int x3), (4, .int x4)]) rfl ?_
          exact wk_xdX0_fair_73 z K hz hC hQ rk_33 hk_33 x1 x2 x3 x4 2 σ h
        · have h := sv_it c10 h
          refine sv_bipush hC (v := 6) dX0_fair_67 (by decide) ?_
          refine sv_goto hC (tgt := 73) dX0_fair_69 (by decide) ?_
          refine sv_loc [1, 2, 3, 4, 5] (lvq := [(0, .ref (z.1 0)), (1, .int x1), (2, .int x2), (3, .int x3), (4, .int x4)]) rfl ?_
          exact wk_xdX0_fair_73 z K hz hC hQ rk_33 hk_33 x1 x2 x3 x4 6 σ h
set_option maxHeartbeats 2000000 in
theorem wk_xdX0_fair_33 {Γ : sv_G} (z : XZ) (K : XK) (hz : SP (sg_s0 Γ) (sg_dA Γ) z K) (hC : sv_C Γ cX0_fair 7 RX0 (some .int) rm_X0_fair) {r0 : Int32 × MSt} (hQ : sv_RQ Γ (sv_pI r0.1 (SW (sg_dA Γ) z K r0.2)) 0 0)  : ∀ (n : Nat) (x1 : Int32) (x2 : Int32) (x3 : Int32) (x4 : Int32) (σ : MSt)  (h : xdX0_fair_33 K n x1 x2 x3 x4 σ = some r0), sv_V Γ (SW (sg_dA Γ) z K σ) 0 0 33 [(0, .ref (z.1 0)), (1, .int x1), (2, .int x2), (3, .int x3), (4, .int x4)] [] := by
  intro n
  induction n with
  | zero => intro x1 x2 x3 x4 σ h; cases h
  | succ n ih => intro x1 x2 x3 x4 σ h; exact wk_xdX0_fair_33b z K hz hC hQ (xdX0_fair_33 K n) ih x1 x2 x3 x4 σ h
set_option maxHeartbeats 2000000 in
theorem wk_xdX0_fair {Γ : sv_G} (z : XZ) (K : XK) (hz : SP (sg_s0 Γ) (sg_dA Γ) z K) (hC : sv_C Γ cX0_fair 7 RX0 (some .int) rm_X0_fair) {r0 : Int32 × MSt} (hQ : sv_RQ Γ (sv_pI r0.1 (SW (sg_dA Γ) z K r0.2)) 0 0) (x1 : Int32) (x2 : Int32) (σ : MSt) (h : xdX0_fair K x1 x2 σ = some r0) : sv_V Γ (SW (sg_dA Γ) z K σ) 0 0 0 [(0, .ref (z.1 0)), (1, .int x1), (2, .int x2)] [] := by
  unfold xdX0_fair at h
  refine sv_iload_n hC dX0_fair_0 1 rfl rfl ?_
  refine sv_i2l hC dX0_fair_1 ?_
  refine sv_lconst hC (v := 0) dX0_fair_2 (by decide) ?_
  refine sv_ldc2 hC dX0_fair_3 q740 ?_
  obtain ⟨r1, er1, h⟩ := sv_ob h
  refine sv_pSi (nn := 3) hC (met_xdX0_in hC.F x1.toInt64 0 3 er1) (lw_S q292 q293 q52 q294) (by decide +kernel) ⟨by decide, by decide⟩ ⟨rfl, rfl⟩ rfl rfl (Nat.le_of_ble_eq_true rfl) ⟨Nat.le_refl 0, Nat.le_refl 0⟩ dX0_fair_6 ?_
  refine sv_if_ne hC (tgt := 15) dX0_fair_9 (by decide) (fun c2 => ?_) (fun c2 => ?_)
  · have h := sv_if c2 h
    refine sv_iload_n hC dX0_fair_15 2 rfl rfl ?_
    refine sv_i2l hC dX0_fair_16 ?_
    refine sv_lconst hC (v := 0) dX0_fair_17 (by decide) ?_
    refine sv_lconst hC (v := 1) dX0_fair_18 (by decide) ?_
    obtain ⟨r3, er3, h⟩ := sv_ob h
    refine sv_pSi (nn := 3) hC (met_xdX0_in hC.F x2.toInt64 0 1 er3) (lw_S q292 q293 q52 q294) (by decide +kernel) ⟨by decide, by decide⟩ ⟨rfl, rfl⟩ rfl rfl (Nat.le_of_ble_eq_true rfl) ⟨Nat.le_refl 0, Nat.le_refl 0⟩ dX0_fair_19 ?_
    refine sv_if_ne hC (tgt := 28) dX0_fair_22 (by decide) (fun c4 => ?_) (fun c4 => ?_)
    · have h := sv_if c4 h
      refine sv_iconst hC (v := 0) dX0_fair_28 (by decide) ?_
      refine sv_istore_n hC dX0_fair_29 rfl (by decide) (lvq := [(3, .int 0), (0, .ref (z.1 0)), (1, .int x1), (2, .int x2)]) rfl ?_
      refine sv_iconst hC (v := 0) dX0_fair_30 (by decide) ?_
      refine sv_istore hC dX0_fair_31 (by decide) (lvq := [(4, .int 0), (3, .int 0), (0, .ref (z.1 0)), (1, .int x1), (2, .int x2)]) rfl ?_
      refine sv_loc [2, 3, 4, 1, 0] (lvq := [(0, .ref (z.1 0)), (1, .int x1), (2, .int x2), (3, .int 0), (4, .int 0)]) rfl ?_
      exact wk_xdX0_fair_33 z K hz hC hQ sv_FU x1 x2 0 0 σ h
    · have h := sv_it c4 h
      refine sv_bipush hC (v := (-3)) dX0_fair_25 (by decide) ?_
      exact sv_iret hC hQ dX0_fair_27 (by have e := Option.some.inj h; subst e; exact ⟨rfl, rfl⟩)
  · have h := sv_it c2 h
    refine sv_bipush hC (v := (-2)) dX0_fair_12 (by decide) ?_
    exact sv_iret hC hQ dX0_fair_14 (by have e := Option.some.inj h; subst e; exact ⟨rfl, rfl⟩)
set_option maxHeartbeats 2000000 in
theorem met_xdX0_fair {l : Launch} {s0 : State} {D : va_G} {dA : Nat → ClassId} (hF : sv_F s0 D dA) (z : XZ) (K : XK) (hz : SP s0 dA z K) (x1 : Int32) (x2 : Int32) (σ : MSt) {r0 : Int32 × MSt} (h : xdX0_fair K x1 x2 σ = some r0) : sv_M l s0 D yX0_fair cX0_fair 7 (some .int) rm_X0_fair [.ref (z.1 0), .int x1, .int x2] (SW dA z K σ) (sv_pI r0.1 (SW dA z K r0.2)) :=
  sv_met hF (by decide) (Nat.le_of_ble_eq_true rfl) (fun Γ hC hQ hmn e1 e2 e3 e4 => by
    subst e1 e2 e3 e4
    exact wk_xdX0_fair z K hz hC hQ x1 x2 σ h)
set_option maxHeartbeats 2000000 in
theorem wk_xdX0_lossIn_9b {Γ : sv_G} (z : XZ) (K : XK) (hz : SP (sg_s0 Γ) (sg_dA Γ) z K) (hC : sv_C Γ cX0_lossIn 5 RX0 (some .int) rm_X0_lossIn) {r0 : Int32 × MSt} (hQ : sv_RQ Γ (sv_pI r0.1 (SW (sg_dA Γ) z K r0.2)) 0 0)  (rk_9 : Int32 → Int32 → Int32 → MSt → Option (Int32 × MSt)) (hk_9 : ∀ (x1 : Int32) (x3 : Int32) (x4 : Int32) (σ : MSt), rk_9 x1 x3 x4 σ = some r0 → sv_V Γ (SW (sg_dA Γ) z K σ) 0 0 9 [(0, .ref (z.1 0)), (1, .int x1), (3, .int x3), (4, .int x4)] []) (x1 : Int32) (x3 : Int32) (x4 : Int32) (σ : MSt)  (h : xdX0_lossIn_9b K rk_9 x1 x3 x4 σ = some r0) : sv_V Γ (SW (sg_dA Γ) z K σ) 0 0 9 [(0, .ref (z.1 0)), (1, .int x1), (3, .int x3), (4, .int x4)] [] := by
  unfold xdX0_lossIn_9b at h
  refine sv_iload hC dX0_lossIn_9 3 rfl ?_
  refine sv_iconst hC (v := 4) dX0_lossIn_11 (by decide) ?_
  refine sv_icmp_ge hC (tgt := 72) dX0_lossIn_12 (by decide) (fun c2 => ?_) (fun c2 => ?_)
  · have h := sv_it c2 h
    refine sv_iload_n hC dX0_lossIn_72 2 rfl rfl ?_
    exact sv_iret hC hQ dX0_lossIn_73 (by have e := Option.some.inj h; subst e; exact ⟨rfl, rfl⟩)
  · have h := sv_if c2 h
    refine sv_iload_n hC dX0_lossIn_15 2 rfl rfl ?_
    refine sv_aload_n hC dX0_lossIn_16 0 rfl rfl ?_
    refine sv_iload hC dX0_lossIn_17 3 rfl ?_
    obtain ⟨r3, er3, h⟩ := sv_ob h
    refine sv_wVi (nn := 1) hC (met_xdX0_isField hC.F z K hz σ x4 er3) 0 1 (sx_at (by decide)) rfl rfl (lw_V q736 q738 qs6 q52 q739) (by decide +kernel) ⟨by decide, by decide⟩ ⟨rfl, rfl⟩ rfl rfl (Nat.le_of_ble_eq_true rfl) ⟨Nat.le_refl 0, Nat.le_refl 0⟩ dX0_lossIn_19 ?_
    refine sv_if_eq hC (tgt := 63) dX0_lossIn_22 (by decide) (fun c4 => ?_) (fun c4 => ?_)
    · have h := sv_it c4 h
      refine sv_iconst hC (v := 0) dX0_lossIn_63 (by decide) ?_
      refine sv_isub hC dX0_lossIn_64 ?_
      refine sv_istore_n hC dX0_lossIn_65 rfl (by decide) (lvq := [(3, .int (x3 - 0)), (0, .ref (z.1 0)), (1, .int x1), (4, .int x4)]) rfl ?_
      refine sv_iinc hC (v := x4 + 1) dX0_lossIn_66 3 rfl rfl (by decide) (lvq := [(4, .int (x4 + 1)), (3, .int (x3 - 0)), (0, .ref (z.1 0)), (1, .int x1)]) rfl ?_
      refine sv_goto hC (tgt := 9) dX0_lossIn_69 (by decide) ?_
      refine sv_loc [2, 3, 1, 0] (lvq := [(0, .ref (z.1 0)), (1, .int x1), (3, .int (x3 - 0)), (4, .int (x4 + 1))]) rfl ?_
      exact hk_9 x1 (x3 - 0) (x4 + 1) σ h
    · have h := sv_if c4 h
      refine sv_aload_n hC dX0_lossIn_25 0 rfl rfl ?_
      refine sv_get hC in_X0 0 (sx_at (by decide)) rfl 0 (by decide) q222 rfl (v := .ref (z.1 1)) rfl dX0_lossIn_26 ?_
      refine sv_iload hC dX0_lossIn_29 3 rfl ?_
      obtain ⟨j5, ej5, h⟩ := sv_ob h
      refine sv_aldq hC 1 3 (sx_at (by decide)) rfl (j := j5) ej5 dX0_lossIn_31 ?_
      obtain ⟨v6, ev6, h⟩ := sv_ob h
      refine sx_fget hC hz ev6 2 (by decide) q699 rfl dX0_lossIn_32 ?_
      refine sv_iload_n hC dX0_lossIn_35 1 rfl rfl ?_
      refine sv_icmp_eq hC (tgt := 63) dX0_lossIn_36 (by decide) (fun c7 => ?_) (fun c7 => ?_)
      · have h := sv_it c7 h
        refine sv_iconst hC (v := 0) dX0_lossIn_63 (by decide) ?_
        refine sv_isub hC dX0_lossIn_64 ?_
        refine sv_istore_n hC dX0_lossIn_65 rfl (by decide) (lvq := [(3, .int (x3 - 0)), (0, .ref (z.1 0)), (1, .int x1), (4, .int x4)]) rfl ?_
        refine sv_iinc hC (v := x4 + 1) dX0_lossIn_66 3 rfl rfl (by decide) (lvq := [(4, .int (x4 + 1)), (3, .int (x3 - 0)), (0, .ref (z.1 0)), (1, .int x1)]) rfl ?_
        refine sv_goto hC (tgt := 9) dX0_lossIn_69 (by decide) ?_
        refine sv_loc [2, 3, 1, 0] (lvq := [(0, .ref (z.1 0)), (1, .int x1), (3, .int (x3 - 0)), (4, .int (x4 + 1))]) rfl ?_
        exact hk_9 x1 (x3 - 0) (x4 + 1) σ h
      · have h := sv_if c7 h
        refine sv_aload_n hC dX0_lossIn_39 0 rfl rfl ?_
        refine sv_get hC in_X0 0 (sx_at (by decide)) rfl 0 (by decide) q222 rfl (v := .ref (z.1 1)) rfl dX0_lossIn_40 ?_
        refine sv_iload hC dX0_lossIn_43 3 rfl ?_
        obtain ⟨j8, ej8, h⟩ := sv_ob h
        refine sv_aldq hC 1 3 (sx_at (by decide)) rfl (j := j8) ej8 dX0_lossIn_45 ?_
        obtain ⟨v9, ev9, h⟩ := sv_ob h
        refine sx_fget hC hz ev9 0 (by decide) q694 rfl dX0_lossIn_46 ?_
        refine sv_aload_n hC dX0_lossIn_49 0 rfl rfl ?_
        refine sv_get hC in_X0 0 (sx_at (by decide)) rfl 10 (by decide) q237 rfl (v := .ref (z.1 11)) rfl dX0_lossIn_50 ?_
        refine sv_get hC in_X4 (11 + 0) (sx_w (w := 0) (by decide)) rfl 0 (by decide) q156 rfl (v := .ref (z.1 (7 * 0 + 20))) rfl dX0_lossIn_53 ?_
        refine sv_iload hC dX0_lossIn_56 3 rfl ?_
        obtain ⟨j10, ej10, h⟩ := sv_ob h
        refine sv_iald hC (7 * 0 + 20) (f := σ.2 (7 * 0)) (sx_a (XA_sd (w := 0) (by decide))) rfl (j := j10) ej10 dX0_lossIn_58 ?_
        refine sv_isub hC dX0_lossIn_59 ?_
        refine sv_goto hC (tgt := 64) dX0_lossIn_60 (by decide) ?_
        refine sv_isub hC dX0_lossIn_64 ?_
        refine sv_istore_n hC dX0_lossIn_65 rfl (by decide) (lvq := [(3, .int (x3 - (v9.1 - (σ.2 (7 * 0) j10)))), (0, .ref (z.1 0)), (1, .int x1), (4, .int x4)]) rfl ?_
        refine sv_iinc hC (v := x4 + 1) dX0_lossIn_66 3 rfl rfl (by decide) (lvq := [(4, .int (x4 + 1)), (3, .int (x3 - (v9.1 - (σ.2 (7 * 0) j10)))), (0, .ref (z.1 0)), (1, .int x1)]) rfl ?_
        refine sv_goto hC (tgt := 9) dX0_lossIn_69 (by decide) ?_
        refine sv_loc [2, 3, 1, 0] (lvq := [(0, .ref (z.1 0)), (1, .int x1), (3, .int (x3 - (v9.1 - (σ.2 (7 * 0) j10)))), (4, .int (x4 + 1))]) rfl ?_
        exact hk_9 x1 (x3 - (v9.1 - (σ.2 (7 * 0) j10))) (x4 + 1) σ h
set_option maxHeartbeats 2000000 in
theorem wk_xdX0_lossIn_9 {Γ : sv_G} (z : XZ) (K : XK) (hz : SP (sg_s0 Γ) (sg_dA Γ) z K) (hC : sv_C Γ cX0_lossIn 5 RX0 (some .int) rm_X0_lossIn) {r0 : Int32 × MSt} (hQ : sv_RQ Γ (sv_pI r0.1 (SW (sg_dA Γ) z K r0.2)) 0 0)  : ∀ (n : Nat) (x1 : Int32) (x3 : Int32) (x4 : Int32) (σ : MSt)  (h : xdX0_lossIn_9 K n x1 x3 x4 σ = some r0), sv_V Γ (SW (sg_dA Γ) z K σ) 0 0 9 [(0, .ref (z.1 0)), (1, .int x1), (3, .int x3), (4, .int x4)] [] := by
  intro n
  induction n with
  | zero => intro x1 x3 x4 σ h; cases h
  | succ n ih => intro x1 x3 x4 σ h; exact wk_xdX0_lossIn_9b z K hz hC hQ (xdX0_lossIn_9 K n) ih x1 x3 x4 σ h
set_option maxHeartbeats 2000000 in
theorem wk_xdX0_lossIn {Γ : sv_G} (z : XZ) (K : XK) (hz : SP (sg_s0 Γ) (sg_dA Γ) z K) (hC : sv_C Γ cX0_lossIn 5 RX0 (some .int) rm_X0_lossIn) {r0 : Int32 × MSt} (hQ : sv_RQ Γ (sv_pI r0.1 (SW (sg_dA Γ) z K r0.2)) 0 0) (x1 : Int32) (x2 : Int32) (σ : MSt) (h : xdX0_lossIn K x1 x2 σ = some r0) : sv_V Γ (SW (sg_dA Γ) z K σ) 0 0 0 [(0, .ref (z.1 0)), (1, .int x1), (2, .int x2)] [] := by
  unfold xdX0_lossIn at h
  refine sv_aload_n hC dX0_lossIn_0 0 rfl rfl ?_
  refine sv_iload_n hC dX0_lossIn_1 2 rfl rfl ?_
  obtain ⟨p1, ep1, h⟩ := sv_ob h
  refine sv_wVi (nn := 1) hC (met_xdX0_lossOf hC.F z K hz x2 σ ep1) 0 1 (sx_at (by decide)) rfl rfl (lw_V q914 q916 qs18 q52 q917) (by decide +kernel) ⟨by decide, by decide⟩ ⟨rfl, rfl⟩ rfl rfl (Nat.le_of_ble_eq_true rfl) ⟨Nat.le_refl 0, Nat.le_refl 0⟩ dX0_lossIn_2 ?_
  refine sv_istore_n hC dX0_lossIn_5 rfl (by decide) (lvq := [(3, .int p1.1), (0, .ref (z.1 0)), (1, .int x1), (2, .int x2)]) rfl ?_
  refine sv_iconst hC (v := 0) dX0_lossIn_6 (by decide) ?_
  refine sv_istore hC dX0_lossIn_7 (by decide) (lvq := [(4, .int 0), (3, .int p1.1), (0, .ref (z.1 0)), (1, .int x1), (2, .int x2)]) rfl ?_
  refine sv_loc [2, 3, 1, 0] (lvq := [(0, .ref (z.1 0)), (1, .int x1), (3, .int p1.1), (4, .int 0)]) rfl ?_
  exact wk_xdX0_lossIn_9 z K hz hC hQ sv_FU x1 p1.1 0 p1.2 h
set_option maxHeartbeats 2000000 in
theorem met_xdX0_lossIn {l : Launch} {s0 : State} {D : va_G} {dA : Nat → ClassId} (hF : sv_F s0 D dA) (z : XZ) (K : XK) (hz : SP s0 dA z K) (x1 : Int32) (x2 : Int32) (σ : MSt) {r0 : Int32 × MSt} (h : xdX0_lossIn K x1 x2 σ = some r0) : sv_M l s0 D yX0_lossIn cX0_lossIn 5 (some .int) rm_X0_lossIn [.ref (z.1 0), .int x1, .int x2] (SW dA z K σ) (sv_pI r0.1 (SW dA z K r0.2)) :=
  sv_met hF (by decide) (Nat.le_of_ble_eq_true rfl) (fun Γ hC hQ hmn e1 e2 e3 e4 => by
    subst e1 e2 e3 e4
    exact wk_xdX0_lossIn z K hz hC hQ x1 x2 σ h)
set_option maxHeartbeats 2000000 in
theorem wk_xdX0_free {Γ : sv_G} (z : XZ) (K : XK) (hz : SP (sg_s0 Γ) (sg_dA Γ) z K) (hC : sv_C Γ cX0_free 3 RX0 (some .int) rm_X0_free) {r0 : Int32 × MSt} (hQ : sv_RQ Γ (sv_pI r0.1 (SW (sg_dA Γ) z K r0.2)) 0 0) (x1 : Int32) (σ : MSt) (h : xdX0_free K x1 σ = some r0) : sv_V Γ (SW (sg_dA Γ) z K σ) 0 0 0 [(0, .ref (z.1 0)), (1, .int x1)] [] := by
  unfold xdX0_free at h
  refine sv_iload_n hC dX0_free_0 1 rfl rfl ?_
  refine sv_i2l hC dX0_free_1 ?_
  refine sv_lconst hC (v := 0) dX0_free_2 (by decide) ?_
  refine sv_ldc2 hC dX0_free_3 q740 ?_
  obtain ⟨r1, er1, h⟩ := sv_ob h
  refine sv_pSi (nn := 3) hC (met_xdX0_in hC.F x1.toInt64 0 3 er1) (lw_S q292 q293 q52 q294) (by decide +kernel) ⟨by decide, by decide⟩ ⟨rfl, rfl⟩ rfl rfl (Nat.le_of_ble_eq_true rfl) ⟨Nat.le_refl 0, Nat.le_refl 0⟩ dX0_free_6 ?_
  refine sv_if_ne hC (tgt := 15) dX0_free_9 (by decide) (fun c2 => ?_) (fun c2 => ?_)
  · have h := sv_if c2 h
    refine sv_aload_n hC dX0_free_15 0 rfl rfl ?_
    refine sv_iload_n hC dX0_free_16 1 rfl rfl ?_
    refine sv_bipush hC (v := 15) dX0_free_17 (by decide) ?_
    refine sv_iconst hC (v := 1) dX0_free_19 (by decide) ?_
    refine sv_iload_n hC dX0_free_20 1 rfl rfl ?_
    refine sv_ishl hC dX0_free_21 ?_
    refine sv_iconst hC (v := (-1)) dX0_free_22 (by decide) ?_
    refine sv_ixor hC dX0_free_23 ?_
    refine sv_iand hC dX0_free_24 ?_
    obtain ⟨p3, ep3, h⟩ := sv_ob h
    refine sv_wVi (nn := 2) hC (met_xdX0_lossIn hC.F z K hz x1 (15 &&& (((1 : Int32) <<< (x1 &&& 31)) ^^^ (-1))) σ ep3) 0 1 (sx_at (by decide)) rfl rfl (lw_V q938 q940 qs19 q52 q941) (by decide +kernel) ⟨by decide, by decide⟩ ⟨rfl, rfl⟩ rfl rfl (Nat.le_of_ble_eq_true rfl) ⟨Nat.le_refl 0, Nat.le_refl 0⟩ dX0_free_25 ?_
    refine sv_istore_n hC dX0_free_28 rfl (by decide) (lvq := [(2, .int p3.1), (0, .ref (z.1 0)), (1, .int x1)]) rfl ?_
    refine sv_iload_n hC dX0_free_29 0 rfl rfl ?_
    refine sv_aload_n hC dX0_free_30 1 rfl rfl ?_
    refine sv_iload_n hC dX0_free_31 2 rfl rfl ?_
    refine sv_iconst hC (v := 0) dX0_free_32 (by decide) ?_
    obtain ⟨p4, ep4, h⟩ := sv_ob h
    refine sv_wVi (nn := 2) hC (met_xdX0_lossIn hC.F z K hz x1 0 p3.2 ep4) 0 1 (sx_at (by decide)) rfl rfl (lw_V q938 q940 qs19 q52 q941) (by decide +kernel) ⟨by decide, by decide⟩ ⟨rfl, rfl⟩ rfl rfl (Nat.le_of_ble_eq_true rfl) ⟨Nat.le_refl 0, Nat.le_refl 0⟩ dX0_free_33 ?_
    refine sv_isub hC dX0_free_36 ?_
    refine sv_ldcw hC dX0_free_37 q918 ?_
    refine sv_iadd hC dX0_free_40 ?_
    exact sv_iret hC hQ dX0_free_41 (by have e := Option.some.inj h; subst e; exact ⟨rfl, rfl⟩)
  · have h := sv_it c2 h
    refine sv_bipush hC (v := (-2)) dX0_free_12 (by decide) ?_
    exact sv_iret hC hQ dX0_free_14 (by have e := Option.some.inj h; subst e; exact ⟨rfl, rfl⟩)
set_option maxHeartbeats 2000000 in
theorem met_xdX0_free {l : Launch} {s0 : State} {D : va_G} {dA : Nat → ClassId} (hF : sv_F s0 D dA) (z : XZ) (K : XK) (hz : SP s0 dA z K) (x1 : Int32) (σ : MSt) {r0 : Int32 × MSt} (h : xdX0_free K x1 σ = some r0) : sv_M l s0 D yX0_free cX0_free 3 (some .int) rm_X0_free [.ref (z.1 0), .int x1] (SW dA z K σ) (sv_pI r0.1 (SW dA z K r0.2)) :=
  sv_met hF (by decide) (Nat.le_of_ble_eq_true rfl) (fun Γ hC hQ hmn e1 e2 e3 e4 => by
    subst e1 e2 e3 e4
    exact wk_xdX0_free z K hz hC hQ x1 σ h)
set_option maxHeartbeats 2000000 in
theorem wk_xdX0_matters_47b {Γ : sv_G} (z : XZ) (K : XK) (hz : SP (sg_s0 Γ) (sg_dA Γ) z K) (hC : sv_C Γ cX0_matters 5 RX0 (some .int) rm_X0_matters) {r0 : Int32 × MSt} (hQ : sv_RQ Γ (sv_pI r0.1 (SW (sg_dA Γ) z K r0.2)) 0 0) (rk_20 : Int32 → Int32 → Int32 → MSt → Option (Int32 × MSt)) (hk_20 : ∀ (x1 : Int32) (x2 : Int32) (x3 : Int32) (σ : MSt), rk_20 x1 x2 x3 σ = some r0 → sv_V Γ (SW (sg_dA Γ) z K σ) 0 0 20 [(0, .ref (z.1 0)), (1, .int x1), (2, .int x2), (3, .int x3)] []) (rk_47 : Int32 → Int32 → Int32 → Int32 → MSt → Option (Int32 × MSt)) (hk_47 : ∀ (x1 : Int32) (x2 : Int32) (x3 : Int32) (x4 : Int32) (σ : MSt), rk_47 x1 x2 x3 x4 σ = some r0 → sv_V Γ (SW (sg_dA Γ) z K σ) 0 0 47 [(0, .ref (z.1 0)), (1, .int x1), (2, .int x2), (3, .int x3), (4, .int x4)] []) (x1 : Int32) (x2 : Int32) (x3 : Int32) (x4 : Int32) (σ : MSt)  (h : xdX0_matters_47b K rk_20 rk_47 x1 x2 x3 x4 σ = some r0) : sv_V Γ (SW (sg_dA Γ) z K σ) 0 0 47 [(0, .ref (z.1 0)), (1, .int x1), (2, .int x2), (3, .int x3), (4, .int x4)] [] := by
  unfold xdX0_matters_47b at h
  refine sv_iload hC dX0_matters_47 4 rfl ?_
  refine sv_bipush hC (v := 21) dX0_matters_49 (by decide) ?_
  refine sv_icmp_ge hC (tgt := 70) dX0_matters_51 (by decide) (fun c6 => ?_) (fun c6 => ?_)
  · have h := sv_it c6 h
    refine sv_iload_n hC dX0_matters_70 2 rfl rfl ?_
    refine sv_aload_n hC dX0_matters_71 0 rfl rfl ?_
    refine sv_get hC in_X0 0 (sx_at (by decide)) rfl 10 (by decide) q237 rfl (v := .ref (z.1 11)) rfl dX0_matters_72 ?_
    refine sv_aload_n hC dX0_matters_75 0 rfl rfl ?_
    refine sv_get hC in_X0 0 (sx_at (by decide)) rfl 9 (by decide) q236 rfl (v := .ref (z.1 6)) rfl dX0_matters_76 ?_
    refine sv_aload_n hC dX0_matters_79 0 rfl rfl ?_
    refine sv_get hC in_X0 0 (sx_at (by decide)) rfl 7 (by decide) q234 rfl (v := .int (σ.1 7)) rfl dX0_matters_80 ?_
    obtain ⟨p7, ep7, h⟩ := sv_ob h
    refine sv_wVi (nn := 2) hC (met_xdX4_run hC.F z K hz 0 1 (by decide) (by decide) (σ.1 7) σ ep7) (11 + 0) 5 (sx_w (w := 0) (by decide)) rfl rfl (lw_V q779 q780 q781 q57 q782) (by decide +kernel) ⟨by decide, by decide⟩ ⟨rfl, rfl⟩ rfl rfl (Nat.le_of_ble_eq_true rfl) ⟨Nat.le_refl 0, Nat.le_refl 0⟩ dX0_matters_83 ?_
    refine sv_iload_n hC dX0_matters_86 1 rfl rfl ?_
    refine sv_icmp_eq hC (tgt := 96) dX0_matters_87 (by decide) (fun c8 => ?_) (fun c8 => ?_)
    · have h := sv_it c8 h
      refine sv_iconst hC (v := 0) dX0_matters_96 (by decide) ?_
      refine sv_ior hC dX0_matters_97 ?_
      refine sv_istore_n hC dX0_matters_98 rfl (by decide) (lvq := [(2, .int (x2 ||| 0)), (0, .ref (z.1 0)), (1, .int x1), (3, .int x3), (4, .int x4)]) rfl ?_
      refine sv_iinc hC (v := x3 + 1) dX0_matters_99 3 rfl rfl (by decide) (lvq := [(3, .int (x3 + 1)), (2, .int (x2 ||| 0)), (0, .ref (z.1 0)), (1, .int x1), (4, .int x4)]) rfl ?_
      refine sv_goto hC (tgt := 20) dX0_matters_102 (by decide) ?_
      refine sv_loc [2, 3, 1, 0] (lvq := [(0, .ref (z.1 0)), (1, .int x1), (2, .int (x2 ||| 0)), (3, .int (x3 + 1))]) rfl ?_
      exact hk_20 x1 (x2 ||| 0) (x3 + 1) p7.2 h
    · have h := sv_if c8 h
      refine sv_iconst hC (v := 1) dX0_matters_90 (by decide) ?_
      refine sv_iload_n hC dX0_matters_91 3 rfl rfl ?_
      refine sv_ishl hC dX0_matters_92 ?_
      refine sv_goto hC (tgt := 97) dX0_matters_93 (by decide) ?_
      refine sv_ior hC dX0_matters_97 ?_
      refine sv_istore_n hC dX0_matters_98 rfl (by decide) (lvq := [(2, .int (x2 ||| ((1 : Int32) <<< (x3 &&& 31)))), (0, .ref (z.1 0)), (1, .int x1), (3, .int x3), (4, .int x4)]) rfl ?_
      refine sv_iinc hC (v := x3 + 1) dX0_matters_99 3 rfl rfl (by decide) (lvq := [(3, .int (x3 + 1)), (2, .int (x2 ||| ((1 : Int32) <<< (x3 &&& 31)))), (0, .ref (z.1 0)), (1, .int x1), (4, .int x4)]) rfl ?_
      refine sv_goto hC (tgt := 20) dX0_matters_102 (by decide) ?_
      refine sv_loc [2, 3, 1, 0] (lvq := [(0, .ref (z.1 0)), (1, .int x1), (2, .int (x2 ||| ((1 : Int32) <<< (x3 &&& 31)))), (3, .int (x3 + 1))]) rfl ?_
      exact hk_20 x1 (x2 ||| ((1 : Int32) <<< (x3 &&& 31))) (x3 + 1) p7.2 h
  · have h := sv_if c6 h
    refine sv_aload_n hC dX0_matters_54 0 rfl rfl ?_
    refine sv_get hC in_X0 0 (sx_at (by decide)) rfl 9 (by decide) q236 rfl (v := .ref (z.1 6)) rfl dX0_matters_55 ?_
    refine sv_iload hC dX0_matters_58 4 rfl ?_
    refine sv_iload_n hC dX0_matters_60 3 rfl rfl ?_
    obtain ⟨s9, es9, h⟩ := sv_ob h
    refine sv_wVv (nn := 2) hC (met_xdX3_takeOff hC.F z K hz 1 (by decide) x4 x3 σ es9) (5 + 1) 4 (sx_p (p := 1) (by decide)) rfl rfl (lw_V q904 q905 q906 q55 q907) (by decide +kernel) ⟨by decide, by decide⟩ ⟨rfl, rfl⟩ rfl rfl (Nat.le_of_ble_eq_true rfl) ⟨Nat.le_refl 0, Nat.le_refl 0⟩ dX0_matters_61 ?_
    refine sv_iinc hC (v := x4 + 1) dX0_matters_64 4 rfl rfl (by decide) (lvq := [(4, .int (x4 + 1)), (0, .ref (z.1 0)), (1, .int x1), (2, .int x2), (3, .int x3)]) rfl ?_
    refine sv_goto hC (tgt := 47) dX0_matters_67 (by decide) ?_
    refine sv_loc [1, 2, 3, 4, 0] (lvq := [(0, .ref (z.1 0)), (1, .int x1), (2, .int x2), (3, .int x3), (4, .int (x4 + 1))]) rfl ?_
    exact hk_47 x1 x2 x3 (x4 + 1) s9 h
set_option maxHeartbeats 2000000 in
theorem wk_xdX0_matters_47 {Γ : sv_G} (z : XZ) (K : XK) (hz : SP (sg_s0 Γ) (sg_dA Γ) z K) (hC : sv_C Γ cX0_matters 5 RX0 (some .int) rm_X0_matters) {r0 : Int32 × MSt} (hQ : sv_RQ Γ (sv_pI r0.1 (SW (sg_dA Γ) z K r0.2)) 0 0) (rk_20 : Int32 → Int32 → Int32 → MSt → Option (Int32 × MSt)) (hk_20 : ∀ (x1 : Int32) (x2 : Int32) (x3 : Int32) (σ : MSt), rk_20 x1 x2 x3 σ = some r0 → sv_V Γ (SW (sg_dA Γ) z K σ) 0 0 20 [(0, .ref (z.1 0)), (1, .int x1), (2, .int x2), (3, .int x3)] []) : ∀ (n : Nat) (x1 : Int32) (x2 : Int32) (x3 : Int32) (x4 : Int32) (σ : MSt)  (h : xdX0_matters_47 K rk_20 n x1 x2 x3 x4 σ = some r0), sv_V Γ (SW (sg_dA Γ) z K σ) 0 0 47 [(0, .ref (z.1 0)), (1, .int x1), (2, .int x2), (3, .int x3), (4, .int x4)] [] := by
  intro n
  induction n with
  | zero => intro x1 x2 x3 x4 σ h; cases h
  | succ n ih => intro x1 x2 x3 x4 σ h; exact wk_xdX0_matters_47b z K hz hC hQ rk_20 hk_20 (xdX0_matters_47 K rk_20 n) ih x1 x2 x3 x4 σ h
set_option maxHeartbeats 2000000 in
theorem wk_xdX0_matters_20b {Γ : sv_G} (z : XZ) (K : XK) (hz : SP (sg_s0 Γ) (sg_dA Γ) z K) (hC : sv_C Γ cX0_matters 5 RX0 (some .int) rm_X0_matters) {r0 : Int32 × MSt} (hQ : sv_RQ Γ (sv_pI r0.1 (SW (sg_dA Γ) z K r0.2)) 0 0)  (rk_20 : Int32 → Int32 → Int32 → MSt → Option (Int32 × MSt)) (hk_20 : ∀ (x1 : Int32) (x2 : Int32) (x3 : Int32) (σ : MSt), rk_20 x1 x2 x3 σ = some r0 → sv_V Γ (SW (sg_dA Γ) z K σ) 0 0 20 [(0, .ref (z.1 0)), (1, .int x1), (2, .int x2), (3, .int x3)] []) (x1 : Int32) (x2 : Int32) (x3 : Int32) (σ : MSt)  (h : xdX0_matters_20b K rk_20 x1 x2 x3 σ = some r0) : sv_V Γ (SW (sg_dA Γ) z K σ) 0 0 20 [(0, .ref (z.1 0)), (1, .int x1), (2, .int x2), (3, .int x3)] [] := by
  unfold xdX0_matters_20b at h
  refine sv_iload_n hC dX0_matters_20 3 rfl rfl ?_
  refine sv_iconst hC (v := 4) dX0_matters_21 (by decide) ?_
  refine sv_icmp_ge hC (tgt := 105) dX0_matters_22 (by decide) (fun c2 => ?_) (fun c2 => ?_)
  · have h := sv_it c2 h
    refine sv_iload_n hC dX0_matters_105 2 rfl rfl ?_
    exact sv_iret hC hQ dX0_matters_106 (by have e := Option.some.inj h; subst e; exact ⟨rfl, rfl⟩)
  · have h := sv_if c2 h
    refine sv_aload_n hC dX0_matters_25 0 rfl rfl ?_
    refine sv_iload_n hC dX0_matters_26 3 rfl rfl ?_
    obtain ⟨r3, er3, h⟩ := sv_ob h
    refine sv_wVi (nn := 1) hC (met_xdX0_isCoat hC.F z K hz σ x3 er3) 0 1 (sx_at (by decide)) rfl rfl (lw_V q757 q759 qs8 q52 q760) (by decide +kernel) ⟨by decide, by decide⟩ ⟨rfl, rfl⟩ rfl rfl (Nat.le_of_ble_eq_true rfl) ⟨Nat.le_refl 0, Nat.le_refl 0⟩ dX0_matters_27 ?_
    refine sv_if_eq hC (tgt := 99) dX0_matters_30 (by decide) (fun c4 => ?_) (fun c4 => ?_)
    · have h := sv_it c4 h
      refine sv_iinc hC (v := x3 + 1) dX0_matters_99 3 rfl rfl (by decide) (lvq := [(3, .int (x3 + 1)), (0, .ref (z.1 0)), (1, .int x1), (2, .int x2)]) rfl ?_
      refine sv_goto hC (tgt := 20) dX0_matters_102 (by decide) ?_
      refine sv_loc [1, 2, 3, 0] (lvq := [(0, .ref (z.1 0)), (1, .int x1), (2, .int x2), (3, .int (x3 + 1))]) rfl ?_
      exact hk_20 x1 x2 (x3 + 1) σ h
    · have h := sv_if c4 h
      refine sv_aload_n hC dX0_matters_33 0 rfl rfl ?_
      refine sv_get hC in_X0 0 (sx_at (by decide)) rfl 9 (by decide) q236 rfl (v := .ref (z.1 6)) rfl dX0_matters_34 ?_
      refine sv_aload_n hC dX0_matters_37 0 rfl rfl ?_
      refine sv_get hC in_X0 0 (sx_at (by decide)) rfl 8 (by decide) q235 rfl (v := .ref (z.1 5)) rfl dX0_matters_38 ?_
      obtain ⟨s5, es5, h⟩ := sv_ob h
      refine sv_wVv (nn := 1) hC (met_xdX3_copy hC.F z K hz 1 0 (by decide) (by decide) σ es5) (5 + 1) 4 (sx_p (p := 1) (by decide)) rfl rfl (lw_V q899 q900 q901 q55 q902) (by decide +kernel) ⟨by decide, by decide⟩ ⟨rfl, rfl⟩ rfl rfl (Nat.le_of_ble_eq_true rfl) ⟨Nat.le_refl 0, Nat.le_refl 0⟩ dX0_matters_41 ?_
      refine sv_iconst hC (v := 0) dX0_matters_44 (by decide) ?_
      refine sv_istore hC dX0_matters_45 (by decide) (lvq := [(4, .int 0), (0, .ref (z.1 0)), (1, .int x1), (2, .int x2), (3, .int x3)]) rfl ?_
      refine sv_loc [1, 2, 3, 4, 0] (lvq := [(0, .ref (z.1 0)), (1, .int x1), (2, .int x2), (3, .int x3), (4, .int 0)]) rfl ?_
      exact wk_xdX0_matters_47 z K hz hC hQ rk_20 hk_20 sv_FU x1 x2 x3 0 s5 h
set_option maxHeartbeats 2000000 in
theorem wk_xdX0_matters_20 {Γ : sv_G} (z : XZ) (K : XK) (hz : SP (sg_s0 Γ) (sg_dA Γ) z K) (hC : sv_C Γ cX0_matters 5 RX0 (some .int) rm_X0_matters) {r0 : Int32 × MSt} (hQ : sv_RQ Γ (sv_pI r0.1 (SW (sg_dA Γ) z K r0.2)) 0 0)  : ∀ (n : Nat) (x1 : Int32) (x2 : Int32) (x3 : Int32) (σ : MSt)  (h : xdX0_matters_20 K n x1 x2 x3 σ = some r0), sv_V Γ (SW (sg_dA Γ) z K σ) 0 0 20 [(0, .ref (z.1 0)), (1, .int x1), (2, .int x2), (3, .int x3)] [] := by
  intro n
  induction n with
  | zero => intro x1 x2 x3 σ h; cases h
  | succ n ih => intro x1 x2 x3 σ h; exact wk_xdX0_matters_20b z K hz hC hQ (xdX0_matters_20 K n) ih x1 x2 x3 σ h
set_option maxHeartbeats 2000000 in
theorem wk_xdX0_matters {Γ : sv_G} (z : XZ) (K : XK) (hz : SP (sg_s0 Γ) (sg_dA Γ) z K) (hC : sv_C Γ cX0_matters 5 RX0 (some .int) rm_X0_matters) {r0 : Int32 × MSt} (hQ : sv_RQ Γ (sv_pI r0.1 (SW (sg_dA Γ) z K r0.2)) 0 0) (σ : MSt) (h : xdX0_matters K σ = some r0) : sv_V Γ (SW (sg_dA Γ) z K σ) 0 0 0 [(0, .ref (z.1 0))] [] := by
  unfold xdX0_matters at h
  refine sv_aload_n hC dX0_matters_0 0 rfl rfl ?_
  refine sv_get hC in_X0 0 (sx_at (by decide)) rfl 10 (by decide) q237 rfl (v := .ref (z.1 11)) rfl dX0_matters_1 ?_
  refine sv_aload_n hC dX0_matters_4 0 rfl rfl ?_
  refine sv_get hC in_X0 0 (sx_at (by decide)) rfl 8 (by decide) q235 rfl (v := .ref (z.1 5)) rfl dX0_matters_5 ?_
  refine sv_aload_n hC dX0_matters_8 0 rfl rfl ?_
  refine sv_get hC in_X0 0 (sx_at (by decide)) rfl 7 (by decide) q234 rfl (v := .int (σ.1 7)) rfl dX0_matters_9 ?_
  obtain ⟨p1, ep1, h⟩ := sv_ob h
  refine sv_wVi (nn := 2) hC (met_xdX4_run hC.F z K hz 0 0 (by decide) (by decide) (σ.1 7) σ ep1) (11 + 0) 5 (sx_w (w := 0) (by decide)) rfl rfl (lw_V q779 q780 q781 q57 q782) (by decide +kernel) ⟨by decide, by decide⟩ ⟨rfl, rfl⟩ rfl rfl (Nat.le_of_ble_eq_true rfl) ⟨Nat.le_refl 0, Nat.le_refl 0⟩ dX0_matters_12 ?_
  refine sv_istore_n hC dX0_matters_15 rfl (by decide) (lvq := [(1, .int p1.1), (0, .ref (z.1 0))]) rfl ?_
  refine sv_iconst hC (v := 0) dX0_matters_16 (by decide) ?_
  refine sv_istore_n hC dX0_matters_17 rfl (by decide) (lvq := [(2, .int 0), (1, .int p1.1), (0, .ref (z.1 0))]) rfl ?_
  refine sv_iconst hC (v := 0) dX0_matters_18 (by decide) ?_
  refine sv_istore_n hC dX0_matters_19 rfl (by decide) (lvq := [(3, .int 0), (2, .int 0), (1, .int p1.1), (0, .ref (z.1 0))]) rfl ?_
  refine sv_loc [3, 2, 1, 0] (lvq := [(0, .ref (z.1 0)), (1, .int p1.1), (2, .int 0), (3, .int 0)]) rfl ?_
  exact wk_xdX0_matters_20 z K hz hC hQ sv_FU p1.1 0 0 p1.2 h
set_option maxHeartbeats 2000000 in
theorem met_xdX0_matters {l : Launch} {s0 : State} {D : va_G} {dA : Nat → ClassId} (hF : sv_F s0 D dA) (z : XZ) (K : XK) (hz : SP s0 dA z K) (σ : MSt) {r0 : Int32 × MSt} (h : xdX0_matters K σ = some r0) : sv_M l s0 D yX0_matters cX0_matters 5 (some .int) rm_X0_matters [.ref (z.1 0)] (SW dA z K σ) (sv_pI r0.1 (SW dA z K r0.2)) :=
  sv_met hF (by decide) (Nat.le_of_ble_eq_true rfl) (fun Γ hC hQ hmn e1 e2 e3 e4 => by
    subst e1 e2 e3 e4
    exact wk_xdX0_matters z K hz hC hQ σ h)
set_option maxHeartbeats 2000000 in
theorem wk_xdX0_holds_119 {Γ : sv_G} (z : XZ) (K : XK) (hz : SP (sg_s0 Γ) (sg_dA Γ) z K) (hC : sv_C Γ cX0_holds 6 RX0 (some .boolean) rm_X0_holds) {r0 : Int32 × MSt} (hQ : sv_RQ Γ (sv_pI r0.1 (SW (sg_dA Γ) z K r0.2)) 0 0) (rk_11 : Int32 → MSt → Option (Int32 × MSt)) (hk_11 : ∀ (x3 : Int32) (σ : MSt), rk_11 x3 σ = some r0 → sv_V Γ (SW (sg_dA Γ) z K σ) 0 0 11 [(0, .ref (z.1 0)), (3, .int x3)] []) (rk_54 : Int32 → Int32 → MSt → Option (Int32 × MSt)) (hk_54 : ∀ (x3 : Int32) (x4 : Int32) (σ : MSt), rk_54 x3 x4 σ = some r0 → sv_V Γ (SW (sg_dA Γ) z K σ) 0 0 54 [(0, .ref (z.1 0)), (3, .int x3), (4, .int x4)] []) (x3 : Int32) (x4 : Int32) (t0 : Int32) (t1 : Int32) (σ : MSt)  (h : xdX0_holds_119 K rk_11 rk_54 x3 x4 t0 t1 σ = some r0) : sv_V Γ (SW (sg_dA Γ) z K σ) 0 0 119 [(0, .ref (z.1 0)), (3, .int x3), (4, .int x4)] [.int t1, .int t0] := by
  unfold xdX0_holds_119 at h
  refine sv_icmp_eq hC (tgt := 124) dX0_holds_119 (by decide) (fun c15 => ?_) (fun c15 => ?_)
  · have h := sv_it c15 h
    refine sv_iinc hC (v := x4 + 1) dX0_holds_124 2 rfl rfl (by decide) (lvq := [(4, .int (x4 + 1)), (0, .ref (z.1 0)), (3, .int x3)]) rfl ?_
    refine sv_goto hC (tgt := 54) dX0_holds_127 (by decide) ?_
    refine sv_loc [1, 2, 0] (lvq := [(0, .ref (z.1 0)), (3, .int x3), (4, .int (x4 + 1))]) rfl ?_
    exact hk_54 x3 (x4 + 1) σ h
  · have h := sv_if c15 h
    refine sv_iconst hC (v := 0) dX0_holds_122 (by decide) ?_
    exact sv_zret hC hQ dX0_holds_123 rfl (by have e := Option.some.inj h; subst e; exact ⟨rfl, rfl⟩)
set_option maxHeartbeats 2000000 in
theorem wk_xdX0_holds_54b {Γ : sv_G} (z : XZ) (K : XK) (hz : SP (sg_s0 Γ) (sg_dA Γ) z K) (hC : sv_C Γ cX0_holds 6 RX0 (some .boolean) rm_X0_holds) {r0 : Int32 × MSt} (hQ : sv_RQ Γ (sv_pI r0.1 (SW (sg_dA Γ) z K r0.2)) 0 0) (rk_11 : Int32 → MSt → Option (Int32 × MSt)) (hk_11 : ∀ (x3 : Int32) (σ : MSt), rk_11 x3 σ = some r0 → sv_V Γ (SW (sg_dA Γ) z K σ) 0 0 11 [(0, .ref (z.1 0)), (3, .int x3)] []) (rk_54 : Int32 → Int32 → MSt → Option (Int32 × MSt)) (hk_54 : ∀ (x3 : Int32) (x4 : Int32) (σ : MSt), rk_54 x3 x4 σ = some r0 → sv_V Γ (SW (sg_dA Γ) z K σ) 0 0 54 [(0, .ref (z.1 0)), (3, .int x3), (4, .int x4)] []) (x3 : Int32) (x4 : Int32) (σ : MSt)  (h : xdX0_holds_54b K rk_11 rk_54 x3 x4 σ = some r0) : sv_V Γ (SW (sg_dA Γ) z K σ) 0 0 54 [(0, .ref (z.1 0)), (3, .int x3), (4, .int x4)] [] := by
  unfold xdX0_holds_54b at h
  refine sv_iload hC dX0_holds_54 2 rfl ?_
  refine sv_aload_n hC dX0_holds_56 0 rfl rfl ?_
  refine sv_get hC in_X0 0 (sx_at (by decide)) rfl 18 (by decide) q247 rfl (v := .ref (z.1 19)) rfl dX0_holds_57 ?_
  refine sv_wVi (nn := 0) hC (met_J3_size hC.F z K σ) 19 7 (sx_at (by decide)) rfl rfl (lw_V q950 q951 q952 q61 q953) (by decide +kernel) ⟨by decide, by decide⟩ ⟨rfl, rfl⟩ rfl rfl (Nat.le_of_ble_eq_true rfl) ⟨Nat.le_refl 0, Nat.le_refl 0⟩ dX0_holds_60 ?_
  refine sv_icmp_ge hC (tgt := 130) dX0_holds_63 (by decide) (fun c7 => ?_) (fun c7 => ?_)
  · have h := sv_it c7 h
    refine sv_iinc hC (v := x3 + 1) dX0_holds_130 1 rfl rfl (by decide) (lvq := [(3, .int (x3 + 1)), (0, .ref (z.1 0)), (4, .int x4)]) rfl ?_
    refine sv_goto hC (tgt := 11) dX0_holds_133 (by decide) ?_
    refine sv_loc [1, 0] (lvq := [(0, .ref (z.1 0)), (3, .int (x3 + 1))]) rfl ?_
    exact hk_11 (x3 + 1) σ h
  · have h := sv_if c7 h
    refine sv_aload_n hC dX0_holds_66 0 rfl rfl ?_
    refine sv_get hC in_X0 0 (sx_at (by decide)) rfl 18 (by decide) q247 rfl (v := .ref (z.1 19)) rfl dX0_holds_67 ?_
    refine sv_iload hC dX0_holds_70 2 rfl ?_
    obtain ⟨j8, ej8, h⟩ := sv_ob h
    refine sv_wVa (nn := 1) hC (met_J3_get hC.F z K hz σ x4 ej8) 19 7 (sx_at (by decide)) rfl rfl (lw_V q1030 q1031 q1032 q61 q1033) (by decide +kernel) ⟨by decide, by decide⟩ ⟨rfl, rfl⟩ rfl rfl (Nat.le_of_ble_eq_true rfl) ⟨Nat.le_refl 0, Nat.le_refl 0⟩ dX0_holds_72 ?_
    refine sx_castR hC hz (j := j8) (sv_ixl ej8) q954 dX0_holds_75 ?_
    refine sv_astore hC dX0_holds_78 (by decide) (lvq := [(5, .ref (z.2.2.2.2.1 j8)), (0, .ref (z.1 0)), (3, .int x3), (4, .int x4)]) rfl ?_
    refine sv_aload hC dX0_holds_80 0 rfl ?_
    obtain ⟨v9, ev9, h⟩ := sv_ob h
    refine sx_rget hC hz ev9 0 (by decide) q961 rfl dX0_holds_82 ?_
    refine sv_iload_n hC dX0_holds_85 2 rfl rfl ?_
    refine sv_icmp_ne hC (tgt := 124) dX0_holds_86 (by decide) (fun c10 => ?_) (fun c10 => ?_)
    · have h := sv_if c10 h
      refine sv_iinc hC (v := x4 + 1) dX0_holds_124 3 rfl rfl (by decide) (lvq := [(4, .int (x4 + 1)), (5, .ref (z.2.2.2.2.1 j8)), (0, .ref (z.1 0)), (3, .int x3)]) rfl ?_
      refine sv_goto hC (tgt := 54) dX0_holds_127 (by decide) ?_
      refine sv_loc [2, 3, 0] (lvq := [(0, .ref (z.1 0)), (3, .int x3), (4, .int (x4 + 1))]) rfl ?_
      exact hk_54 x3 (x4 + 1) σ h
    · have h := sv_it c10 h
      refine sv_aload hC dX0_holds_89 0 rfl ?_
      obtain ⟨v11, ev11, h⟩ := sv_ob h
      refine sx_rget hC hz ev11 2 (by decide) q965 rfl dX0_holds_91 ?_
      refine sv_iload_n hC dX0_holds_94 2 rfl rfl ?_
      refine sv_aload_n hC dX0_holds_95 1 rfl rfl ?_
      refine sv_get hC in_X0 0 (sx_at (by decide)) rfl 7 (by decide) q234 rfl (v := .int (σ.1 7)) rfl dX0_holds_96 ?_
      refine sv_icmp_ge hC (tgt := 118) dX0_holds_99 (by decide) (fun c12 => ?_) (fun c12 => ?_)
      · have h := sv_it c12 h
        refine sv_iconst hC (v := 0) dX0_holds_118 (by decide) ?_
        refine sv_loc [1, 2, 3] (lvq := [(0, .ref (z.1 0)), (3, .int x3), (4, .int x4)]) rfl ?_
        exact wk_xdX0_holds_119 z K hz hC hQ rk_11 hk_11 rk_54 hk_54 x3 x4 v11.2.2 0 σ h
      · have h := sv_if c12 h
        refine sv_aload_n hC dX0_holds_102 1 rfl rfl ?_
        refine sv_get hC in_X0 0 (sx_at (by decide)) rfl 10 (by decide) q237 rfl (v := .ref (z.1 11)) rfl dX0_holds_103 ?_
        refine sv_get hC in_X4 (11 + 0) (sx_w (w := 0) (by decide)) rfl 3 (by decide) q162 rfl (v := .ref (z.1 (7 * 0 + 6 + 20))) rfl dX0_holds_106 ?_
        refine sv_aload hC dX0_holds_109 0 rfl ?_
        obtain ⟨v13, ev13, h⟩ := sv_ob h
        refine sx_rget hC hz ev13 1 (by decide) q963 rfl dX0_holds_111 ?_
        obtain ⟨j14, ej14, h⟩ := sv_ob h
        refine sv_iald hC (7 * 0 + 6 + 20) (f := σ.2 (7 * 0 + 6)) (sx_a (XA_tk (w := 0) (by decide))) rfl (j := j14) ej14 dX0_holds_114 ?_
        refine sv_goto hC (tgt := 119) dX0_holds_115 (by decide) ?_
        refine sv_loc [1, 2, 3] (lvq := [(0, .ref (z.1 0)), (3, .int x3), (4, .int x4)]) rfl ?_
        exact wk_xdX0_holds_119 z K hz hC hQ rk_11 hk_11 rk_54 hk_54 x3 x4 v11.2.2 (σ.2 (7 * 0 + 6) j14) σ h
set_option maxHeartbeats 2000000 in
theorem wk_xdX0_holds_54 {Γ : sv_G} (z : XZ) (K : XK) (hz : SP (sg_s0 Γ) (sg_dA Γ) z K) (hC : sv_C Γ cX0_holds 6 RX0 (some .boolean) rm_X0_holds) {r0 : Int32 × MSt} (hQ : sv_RQ Γ (sv_pI r0.1 (SW (sg_dA Γ) z K r0.2)) 0 0) (rk_11 : Int32 → MSt → Option (Int32 × MSt)) (hk_11 : ∀ (x3 : Int32) (σ : MSt), rk_11 x3 σ = some r0 → sv_V Γ (SW (sg_dA Γ) z K σ) 0 0 11 [(0, .ref (z.1 0)), (3, .int x3)] []) : ∀ (n : Nat) (x3 : Int32) (x4 : Int32) (σ : MSt)  (h : xdX0_holds_54 K rk_11 n x3 x4 σ = some r0), sv_V Γ (SW (sg_dA Γ) z K σ) 0 0 54 [(0, .ref (z.1 0)), (3, .int x3), (4, .int x4)] [] := by
  intro n
  induction n with
  | zero => intro x3 x4 σ h; cases h
  | succ n ih => intro x3 x4 σ h; exact wk_xdX0_holds_54b z K hz hC hQ rk_11 hk_11 (xdX0_holds_54 K rk_11 n) ih x3 x4 σ h
set_option maxHeartbeats 2000000 in
theorem wk_xdX0_holds_11b {Γ : sv_G} (z : XZ) (K : XK) (hz : SP (sg_s0 Γ) (sg_dA Γ) z K) (hC : sv_C Γ cX0_holds 6 RX0 (some .boolean) rm_X0_holds) {r0 : Int32 × MSt} (hQ : sv_RQ Γ (sv_pI r0.1 (SW (sg_dA Γ) z K r0.2)) 0 0)  (rk_11 : Int32 → MSt → Option (Int32 × MSt)) (hk_11 : ∀ (x3 : Int32) (σ : MSt), rk_11 x3 σ = some r0 → sv_V Γ (SW (sg_dA Γ) z K σ) 0 0 11 [(0, .ref (z.1 0)), (3, .int x3)] []) (x3 : Int32) (σ : MSt)  (h : xdX0_holds_11b K rk_11 x3 σ = some r0) : sv_V Γ (SW (sg_dA Γ) z K σ) 0 0 11 [(0, .ref (z.1 0)), (3, .int x3)] [] := by
  unfold xdX0_holds_11b at h
  refine sv_iload_n hC dX0_holds_11 1 rfl rfl ?_
  refine sv_bipush hC (v := 21) dX0_holds_12 (by decide) ?_
  refine sv_icmp_ge hC (tgt := 136) dX0_holds_14 (by decide) (fun c2 => ?_) (fun c2 => ?_)
  · have h := sv_it c2 h
    refine sv_iconst hC (v := 1) dX0_holds_136 (by decide) ?_
    exact sv_zret hC hQ dX0_holds_137 rfl (by have e := Option.some.inj h; subst e; exact ⟨rfl, rfl⟩)
  · have h := sv_if c2 h
    refine sv_iload_n hC dX0_holds_17 1 rfl rfl ?_
    refine sv_aload_n hC dX0_holds_18 0 rfl rfl ?_
    refine sv_get hC in_X0 0 (sx_at (by decide)) rfl 7 (by decide) q234 rfl (v := .int (σ.1 7)) rfl dX0_holds_19 ?_
    refine sv_icmp_ge hC (tgt := 51) dX0_holds_22 (by decide) (fun c3 => ?_) (fun c3 => ?_)
    · have h := sv_it c3 h
      refine sv_iconst hC (v := 0) dX0_holds_51 (by decide) ?_
      refine sv_istore hC dX0_holds_52 (by decide) (lvq := [(4, .int 0), (0, .ref (z.1 0)), (3, .int x3)]) rfl ?_
      refine sv_loc [1, 2, 0] (lvq := [(0, .ref (z.1 0)), (3, .int x3), (4, .int 0)]) rfl ?_
      exact wk_xdX0_holds_54 z K hz hC hQ rk_11 hk_11 sv_FU x3 0 σ h
    · have h := sv_if c3 h
      refine sv_aload_n hC dX0_holds_25 0 rfl rfl ?_
      refine sv_get hC in_X0 0 (sx_at (by decide)) rfl 10 (by decide) q237 rfl (v := .ref (z.1 11)) rfl dX0_holds_26 ?_
      refine sv_aload_n hC dX0_holds_29 0 rfl rfl ?_
      refine sv_get hC in_X0 0 (sx_at (by decide)) rfl 8 (by decide) q235 rfl (v := .ref (z.1 5)) rfl dX0_holds_30 ?_
      refine sv_get hC in_X3 (5 + 0) (sx_p (p := 0) (by decide)) rfl 0 (by decide) q135 rfl (v := .ref (z.1 (7 + 2 * 0))) rfl dX0_holds_33 ?_
      refine sv_iload_n hC dX0_holds_36 1 rfl rfl ?_
      obtain ⟨j4, ej4, h⟩ := sv_ob h
      refine sv_aldr hC (7 + 2 * 0) 6 (sx_ps (p := 0) (by decide)) rfl rfl (j := j4) (b := z.1 (j4 + (21 + 42 * 0) + 20)) ej4 rfl dX0_holds_37 ?_
      refine sv_aload_n hC dX0_holds_38 0 rfl rfl ?_
      refine sv_get hC in_X0 0 (sx_at (by decide)) rfl 8 (by decide) q235 rfl (v := .ref (z.1 5)) rfl dX0_holds_39 ?_
      refine sv_get hC in_X3 (5 + 0) (sx_p (p := 0) (by decide)) rfl 1 (by decide) q138 rfl (v := .ref (z.1 (8 + 2 * 0))) rfl dX0_holds_42 ?_
      refine sv_iload_n hC dX0_holds_45 1 rfl rfl ?_
      obtain ⟨j5, ej5, h⟩ := sv_ob h
      refine sv_aldr hC (8 + 2 * 0) 7 (sx_pr (p := 0) (by decide)) rfl rfl (j := j5) (b := z.1 (j5 + (42 + 42 * 0) + 20)) ej5 rfl dX0_holds_46 ?_
      obtain ⟨p6, ep6, h⟩ := sv_ob h
      refine sv_wVi (nn := 2) hC (met_xdX4_go hC.F z K hz 0 (j4 + (21 + 42 * 0)) (j5 + (42 + 42 * 0)) (by decide) (XA_ps (p := 0) (d := j4) (by decide) (sv_ixl ej4)) (XA_pr (p := 0) (d := j5) (by decide) (sv_ixl ej5)) σ ep6) (11 + 0) 5 (sx_w (w := 0) (by decide)) rfl rfl (lw_V q868 q794 q795 q57 q796) (by decide +kernel) ⟨by decide, by decide⟩ ⟨rfl, rfl⟩ rfl rfl (Nat.le_of_ble_eq_true rfl) ⟨Nat.le_refl 0, Nat.le_refl 0⟩ dX0_holds_47 ?_
      refine sv_pop hC dX0_holds_50 rfl ?_
      refine sv_iconst hC (v := 0) dX0_holds_51 (by decide) ?_
      refine sv_istore hC dX0_holds_52 (by decide) (lvq := [(4, .int 0), (0, .ref (z.1 0)), (3, .int x3)]) rfl ?_
      refine sv_loc [1, 2, 0] (lvq := [(0, .ref (z.1 0)), (3, .int x3), (4, .int 0)]) rfl ?_
      exact wk_xdX0_holds_54 z K hz hC hQ rk_11 hk_11 sv_FU x3 0 p6.2 h
set_option maxHeartbeats 2000000 in
theorem wk_xdX0_holds_11 {Γ : sv_G} (z : XZ) (K : XK) (hz : SP (sg_s0 Γ) (sg_dA Γ) z K) (hC : sv_C Γ cX0_holds 6 RX0 (some .boolean) rm_X0_holds) {r0 : Int32 × MSt} (hQ : sv_RQ Γ (sv_pI r0.1 (SW (sg_dA Γ) z K r0.2)) 0 0)  : ∀ (n : Nat) (x3 : Int32) (σ : MSt)  (h : xdX0_holds_11 K n x3 σ = some r0), sv_V Γ (SW (sg_dA Γ) z K σ) 0 0 11 [(0, .ref (z.1 0)), (3, .int x3)] [] := by
  intro n
  induction n with
  | zero => intro x3 σ h; cases h
  | succ n ih => intro x3 σ h; exact wk_xdX0_holds_11b z K hz hC hQ (xdX0_holds_11 K n) ih x3 σ h
set_option maxHeartbeats 2000000 in
theorem wk_xdX0_holds {Γ : sv_G} (z : XZ) (K : XK) (hz : SP (sg_s0 Γ) (sg_dA Γ) z K) (hC : sv_C Γ cX0_holds 6 RX0 (some .boolean) rm_X0_holds) {r0 : Int32 × MSt} (hQ : sv_RQ Γ (sv_pI r0.1 (SW (sg_dA Γ) z K r0.2)) 0 0) (x1 : Int32) (x2 : Int32) (σ : MSt) (h : xdX0_holds K x1 x2 σ = some r0) : sv_V Γ (SW (sg_dA Γ) z K σ) 0 0 0 [(0, .ref (z.1 0)), (1, .int x1), (2, .int x2)] [] := by
  unfold xdX0_holds at h
  refine sv_aload_n hC dX0_holds_0 0 rfl rfl ?_
  refine sv_get hC in_X0 0 (sx_at (by decide)) rfl 10 (by decide) q237 rfl (v := .ref (z.1 11)) rfl dX0_holds_1 ?_
  refine sv_iload_n hC dX0_holds_4 1 rfl rfl ?_
  refine sv_iload_n hC dX0_holds_5 2 rfl rfl ?_
  obtain ⟨s1, es1, h⟩ := sv_ob h
  refine sv_wVv (nn := 2) hC (met_xdX4_begin_2 hC.F z K hz 0 (by decide) x1 x2 σ es1) (11 + 0) 5 (sx_w (w := 0) (by decide)) rfl rfl (lw_V q1029 q788 q789 q57 q790) (by decide +kernel) ⟨by decide, by decide⟩ ⟨rfl, rfl⟩ rfl rfl (Nat.le_of_ble_eq_true rfl) ⟨Nat.le_refl 0, Nat.le_refl 0⟩ dX0_holds_6 ?_
  refine sv_iconst hC (v := 0) dX0_holds_9 (by decide) ?_
  refine sv_istore_n hC dX0_holds_10 rfl (by decide) (lvq := [(3, .int 0), (0, .ref (z.1 0)), (1, .int x1), (2, .int x2)]) rfl ?_
  refine sv_loc [1, 0] (lvq := [(0, .ref (z.1 0)), (3, .int 0)]) rfl ?_
  exact wk_xdX0_holds_11 z K hz hC hQ sv_FU 0 s1 h
set_option maxHeartbeats 2000000 in
theorem met_xdX0_holds {l : Launch} {s0 : State} {D : va_G} {dA : Nat → ClassId} (hF : sv_F s0 D dA) (z : XZ) (K : XK) (hz : SP s0 dA z K) (x1 : Int32) (x2 : Int32) (σ : MSt) {r0 : Int32 × MSt} (h : xdX0_holds K x1 x2 σ = some r0) : sv_M l s0 D yX0_holds cX0_holds 6 (some .boolean) rm_X0_holds [.ref (z.1 0), .int x1, .int x2] (SW dA z K σ) (sv_pI r0.1 (SW dA z K r0.2)) :=
  sv_met hF (by decide) (Nat.le_of_ble_eq_true rfl) (fun Γ hC hQ hmn e1 e2 e3 e4 => by
    subst e1 e2 e3 e4
    exact wk_xdX0_holds z K hz hC hQ x1 x2 σ h)
set_option maxHeartbeats 2000000 in
theorem wk_xdX0_learnt_32b {Γ : sv_G} (z : XZ) (K : XK) (hz : SP (sg_s0 Γ) (sg_dA Γ) z K) (hC : sv_C Γ cX0_learnt 6 RX0 (some .int) rm_X0_learnt) {r0 : Int32 × MSt} (hQ : sv_RQ Γ (sv_pI r0.1 (SW (sg_dA Γ) z K r0.2)) 0 0) (rk_22 : Int32 → Int32 → Int32 → Int32 → MSt → Option (Int32 × MSt)) (hk_22 : ∀ (x1 : Int32) (x2 : Int32) (x3 : Int32) (x4 : Int32) (σ : MSt), rk_22 x1 x2 x3 x4 σ = some r0 → sv_V Γ (SW (sg_dA Γ) z K σ) 0 0 22 [(0, .ref (z.1 0)), (1, .int x1), (2, .int x2), (3, .int x3), (4, .int x4)] []) (rk_32 : Int32 → Int32 → Int32 → Int32 → Int32 → MSt → Option (Int32 × MSt)) (hk_32 : ∀ (x1 : Int32) (x2 : Int32) (x3 : Int32) (x4 : Int32) (x5 : Int32) (σ : MSt), rk_32 x1 x2 x3 x4 x5 σ = some r0 → sv_V Γ (SW (sg_dA Γ) z K σ) 0 0 32 [(0, .ref (z.1 0)), (1, .int x1), (2, .int x2), (3, .int x3), (4, .int x4), (5, .int x5)] []) (x1 : Int32) (x2 : Int32) (x3 : Int32) (x4 : Int32) (x5 : Int32) (σ : MSt)  (h : xdX0_learnt_32b K rk_22 rk_32 x1 x2 x3 x4 x5 σ = some r0) : sv_V Γ (SW (sg_dA Γ) z K σ) 0 0 32 [(0, .ref (z.1 0)), (1, .int x1), (2, .int x2), (3, .int x3), (4, .int x4), (5, .int x5)] [] := by
  unfold xdX0_learnt_32b at h
  refine sv_iload hC dX0_learnt_32 5 rfl ?_
  refine sv_bipush hC (v := 100) dX0_learnt_34 (by decide) ?_
  refine sv_icmp_gt hC (tgt := 77) dX0_learnt_36 (by decide) (fun c7 => ?_) (fun c7 => ?_)
  · have h := sv_it c7 h
    refine sv_iinc hC (v := x4 + 1) dX0_learnt_77 4 rfl rfl (by decide) (lvq := [(4, .int (x4 + 1)), (0, .ref (z.1 0)), (1, .int x1), (2, .int x2), (3, .int x3), (5, .int x5)]) rfl ?_
    refine sv_goto hC (tgt := 22) dX0_learnt_80 (by decide) ?_
    refine sv_loc [1, 2, 3, 4, 0] (lvq := [(0, .ref (z.1 0)), (1, .int x1), (2, .int x2), (3, .int x3), (4, .int (x4 + 1))]) rfl ?_
    exact hk_22 x1 x2 x3 (x4 + 1) σ h
  · have h := sv_if c7 h
    refine sv_aload_n hC dX0_learnt_39 0 rfl rfl ?_
    refine sv_iload hC dX0_learnt_40 4 rfl ?_
    refine sv_iload hC dX0_learnt_42 5 rfl ?_
    obtain ⟨p8, ep8, h⟩ := sv_ob h
    refine sv_wVi (nn := 2) hC (met_xdX0_holds hC.F z K hz x4 x5 σ ep8) 0 1 (sx_at (by decide)) rfl rfl (lw_V q1025 q1027 qs23 q52 q1028) (by decide +kernel) ⟨by decide, by decide⟩ ⟨rfl, rfl⟩ rfl rfl (Nat.le_of_ble_eq_true rfl) ⟨Nat.le_refl 0, Nat.le_refl 0⟩ dX0_learnt_44 ?_
    refine sv_if_eq hC (tgt := 71) dX0_learnt_47 (by decide) (fun c9 => ?_) (fun c9 => ?_)
    · have h := sv_it c9 h
      refine sv_iinc hC (v := x5 + 10) dX0_learnt_71 5 rfl rfl (by decide) (lvq := [(5, .int (x5 + 10)), (0, .ref (z.1 0)), (1, .int x1), (2, .int x2), (3, .int x3), (4, .int x4)]) rfl ?_
      refine sv_goto hC (tgt := 32) dX0_learnt_74 (by decide) ?_
      refine sv_loc [1, 2, 3, 4, 5, 0] (lvq := [(0, .ref (z.1 0)), (1, .int x1), (2, .int x2), (3, .int x3), (4, .int x4), (5, .int (x5 + 10))]) rfl ?_
      exact hk_32 x1 x2 x3 x4 (x5 + 10) p8.2 h
    · have h := sv_if c9 h
      refine sv_iload_n hC dX0_learnt_50 2 rfl rfl ?_
      refine sv_if_ne hC (tgt := 66) dX0_learnt_51 (by decide) (fun c10 => ?_) (fun c10 => ?_)
      · have h := sv_if c10 h
        refine sv_iload_n hC dX0_learnt_66 3 rfl rfl ?_
        refine sv_istore_n hC dX0_learnt_67 rfl (by decide) (lvq := [(3, .int x3), (0, .ref (z.1 0)), (1, .int x1), (2, .int x2), (4, .int x4), (5, .int x5)]) rfl ?_
        refine sv_iinc hC (v := x2 + 1) dX0_learnt_68 3 rfl rfl (by decide) (lvq := [(2, .int (x2 + 1)), (3, .int x3), (0, .ref (z.1 0)), (1, .int x1), (4, .int x4), (5, .int x5)]) rfl ?_
        refine sv_iinc hC (v := x5 + 10) dX0_learnt_71 5 rfl rfl (by decide) (lvq := [(5, .int (x5 + 10)), (2, .int (x2 + 1)), (3, .int x3), (0, .ref (z.1 0)), (1, .int x1), (4, .int x4)]) rfl ?_
        refine sv_goto hC (tgt := 32) dX0_learnt_74 (by decide) ?_
        refine sv_loc [3, 4, 1, 2, 5, 0] (lvq := [(0, .ref (z.1 0)), (1, .int x1), (2, .int (x2 + 1)), (3, .int x3), (4, .int x4), (5, .int (x5 + 10))]) rfl ?_
        exact hk_32 x1 (x2 + 1) x3 x4 (x5 + 10) p8.2 h
      · have h := sv_it c10 h
        refine sv_sipush hC (v := 1000) dX0_learnt_54 (by decide) ?_
        refine sv_iload hC dX0_learnt_57 4 rfl ?_
        refine sv_imul hC dX0_learnt_59 ?_
        refine sv_iload hC dX0_learnt_60 5 rfl ?_
        refine sv_iadd hC dX0_learnt_62 ?_
        refine sv_goto hC (tgt := 67) dX0_learnt_63 (by decide) ?_
        refine sv_istore_n hC dX0_learnt_67 rfl (by decide) (lvq := [(3, .int ((1000 * x4) + x5)), (0, .ref (z.1 0)), (1, .int x1), (2, .int x2), (4, .int x4), (5, .int x5)]) rfl ?_
        refine sv_iinc hC (v := x2 + 1) dX0_learnt_68 3 rfl rfl (by decide) (lvq := [(2, .int (x2 + 1)), (3, .int ((1000 * x4) + x5)), (0, .ref (z.1 0)), (1, .int x1), (4, .int x4), (5, .int x5)]) rfl ?_
        refine sv_iinc hC (v := x5 + 10) dX0_learnt_71 5 rfl rfl (by decide) (lvq := [(5, .int (x5 + 10)), (2, .int (x2 + 1)), (3, .int ((1000 * x4) + x5)), (0, .ref (z.1 0)), (1, .int x1), (4, .int x4)]) rfl ?_
        refine sv_goto hC (tgt := 32) dX0_learnt_74 (by decide) ?_
        refine sv_loc [3, 4, 1, 2, 5, 0] (lvq := [(0, .ref (z.1 0)), (1, .int x1), (2, .int (x2 + 1)), (3, .int ((1000 * x4) + x5)), (4, .int x4), (5, .int (x5 + 10))]) rfl ?_
        exact hk_32 x1 (x2 + 1) ((1000 * x4) + x5) x4 (x5 + 10) p8.2 h
set_option maxHeartbeats 2000000 in
theorem wk_xdX0_learnt_32 {Γ : sv_G} (z : XZ) (K : XK) (hz : SP (sg_s0 Γ) (sg_dA Γ) z K) (hC : sv_C Γ cX0_learnt 6 RX0 (some .int) rm_X0_learnt) {r0 : Int32 × MSt} (hQ : sv_RQ Γ (sv_pI r0.1 (SW (sg_dA Γ) z K r0.2)) 0 0) (rk_22 : Int32 → Int32 → Int32 → Int32 → MSt → Option (Int32 × MSt)) (hk_22 : ∀ (x1 : Int32) (x2 : Int32) (x3 : Int32) (x4 : Int32) (σ : MSt), rk_22 x1 x2 x3 x4 σ = some r0 → sv_V Γ (SW (sg_dA Γ) z K σ) 0 0 22 [(0, .ref (z.1 0)), (1, .int x1), (2, .int x2), (3, .int x3), (4, .int x4)] []) : ∀ (n : Nat) (x1 : Int32) (x2 : Int32) (x3 : Int32) (x4 : Int32) (x5 : Int32) (σ : MSt)  (h : xdX0_learnt_32 K rk_22 n x1 x2 x3 x4 x5 σ = some r0), sv_V Γ (SW (sg_dA Γ) z K σ) 0 0 32 [(0, .ref (z.1 0)), (1, .int x1), (2, .int x2), (3, .int x3), (4, .int x4), (5, .int x5)] [] := by
  intro n
  induction n with
  | zero => intro x1 x2 x3 x4 x5 σ h; cases h
  | succ n ih => intro x1 x2 x3 x4 x5 σ h; exact wk_xdX0_learnt_32b z K hz hC hQ rk_22 hk_22 (xdX0_learnt_32 K rk_22 n) ih x1 x2 x3 x4 x5 σ h
set_option maxHeartbeats 2000000 in
theorem wk_xdX0_learnt_22b {Γ : sv_G} (z : XZ) (K : XK) (hz : SP (sg_s0 Γ) (sg_dA Γ) z K) (hC : sv_C Γ cX0_learnt 6 RX0 (some .int) rm_X0_learnt) {r0 : Int32 × MSt} (hQ : sv_RQ Γ (sv_pI r0.1 (SW (sg_dA Γ) z K r0.2)) 0 0)  (rk_22 : Int32 → Int32 → Int32 → Int32 → MSt → Option (Int32 × MSt)) (hk_22 : ∀ (x1 : Int32) (x2 : Int32) (x3 : Int32) (x4 : Int32) (σ : MSt), rk_22 x1 x2 x3 x4 σ = some r0 → sv_V Γ (SW (sg_dA Γ) z K σ) 0 0 22 [(0, .ref (z.1 0)), (1, .int x1), (2, .int x2), (3, .int x3), (4, .int x4)] []) (x1 : Int32) (x2 : Int32) (x3 : Int32) (x4 : Int32) (σ : MSt)  (h : xdX0_learnt_22b K rk_22 x1 x2 x3 x4 σ = some r0) : sv_V Γ (SW (sg_dA Γ) z K σ) 0 0 22 [(0, .ref (z.1 0)), (1, .int x1), (2, .int x2), (3, .int x3), (4, .int x4)] [] := by
  unfold xdX0_learnt_22b at h
  refine sv_iload hC dX0_learnt_22 4 rfl ?_
  refine sv_bipush hC (v := 100) dX0_learnt_24 (by decide) ?_
  refine sv_icmp_ge hC (tgt := 83) dX0_learnt_26 (by decide) (fun c3 => ?_) (fun c3 => ?_)
  · have h := sv_it c3 h
    refine sv_iload_n hC dX0_learnt_83 1 rfl rfl ?_
    refine sv_if_ne hC (tgt := 91) dX0_learnt_84 (by decide) (fun c4 => ?_) (fun c4 => ?_)
    · have h := sv_if c4 h
      refine sv_iload_n hC dX0_learnt_91 3 rfl rfl ?_
      refine sv_iconst hC (v := (-1)) dX0_learnt_92 (by decide) ?_
      refine sv_icmp_ne hC (tgt := 100) dX0_learnt_93 (by decide) (fun c5 => ?_) (fun c5 => ?_)
      · have h := sv_if c5 h
        refine sv_iload_n hC dX0_learnt_100 1 rfl rfl ?_
        refine sv_iconst hC (v := 1) dX0_learnt_101 (by decide) ?_
        refine sv_icmp_ne hC (tgt := 113) dX0_learnt_102 (by decide) (fun c6 => ?_) (fun c6 => ?_)
        · have h := sv_if c6 h
          refine sv_iload_n hC dX0_learnt_113 3 rfl rfl ?_
          refine sv_sipush hC (v := 1000) dX0_learnt_114 (by decide) ?_
          refine sv_irem hC dX0_learnt_117 (by decide) ?_
          exact sv_iret hC hQ dX0_learnt_118 (by have e := Option.some.inj h; subst e; exact ⟨rfl, rfl⟩)
        · have h := sv_it c6 h
          refine sv_iload_n hC dX0_learnt_105 3 rfl rfl ?_
          refine sv_sipush hC (v := 1000) dX0_learnt_106 (by decide) ?_
          refine sv_idiv hC dX0_learnt_109 (by decide) ?_
          refine sv_goto hC (tgt := 118) dX0_learnt_110 (by decide) ?_
          exact sv_iret hC hQ dX0_learnt_118 (by have e := Option.some.inj h; subst e; exact ⟨rfl, rfl⟩)
      · have h := sv_it c5 h
        refine sv_iconst hC (v := (-1)) dX0_learnt_96 (by decide) ?_
        refine sv_goto hC (tgt := 118) dX0_learnt_97 (by decide) ?_
        exact sv_iret hC hQ dX0_learnt_118 (by have e := Option.some.inj h; subst e; exact ⟨rfl, rfl⟩)
    · have h := sv_it c4 h
      refine sv_iload_n hC dX0_learnt_87 2 rfl rfl ?_
      refine sv_goto hC (tgt := 118) dX0_learnt_88 (by decide) ?_
      exact sv_iret hC hQ dX0_learnt_118 (by have e := Option.some.inj h; subst e; exact ⟨rfl, rfl⟩)
  · have h := sv_if c3 h
    refine sv_iconst hC (v := 0) dX0_learnt_29 (by decide) ?_
    refine sv_istore hC dX0_learnt_30 (by decide) (lvq := [(5, .int 0), (0, .ref (z.1 0)), (1, .int x1), (2, .int x2), (3, .int x3), (4, .int x4)]) rfl ?_
    refine sv_loc [1, 2, 3, 4, 5, 0] (lvq := [(0, .ref (z.1 0)), (1, .int x1), (2, .int x2), (3, .int x3), (4, .int x4), (5, .int 0)]) rfl ?_
    exact wk_xdX0_learnt_32 z K hz hC hQ rk_22 hk_22 sv_FU x1 x2 x3 x4 0 σ h
set_option maxHeartbeats 2000000 in
theorem wk_xdX0_learnt_22 {Γ : sv_G} (z : XZ) (K : XK) (hz : SP (sg_s0 Γ) (sg_dA Γ) z K) (hC : sv_C Γ cX0_learnt 6 RX0 (some .int) rm_X0_learnt) {r0 : Int32 × MSt} (hQ : sv_RQ Γ (sv_pI r0.1 (SW (sg_dA Γ) z K r0.2)) 0 0)  : ∀ (n : Nat) (x1 : Int32) (x2 : Int32) (x3 : Int32) (x4 : Int32) (σ : MSt)  (h : xdX0_learnt_22 K n x1 x2 x3 x4 σ = some r0), sv_V Γ (SW (sg_dA Γ) z K σ) 0 0 22 [(0, .ref (z.1 0)), (1, .int x1), (2, .int x2), (3, .int x3), (4, .int x4)] [] := by
  intro n
  induction n with
  | zero => intro x1 x2 x3 x4 σ h; cases h
  | succ n ih => intro x1 x2 x3 x4 σ h; exact wk_xdX0_learnt_22b z K hz hC hQ (xdX0_learnt_22 K n) ih x1 x2 x3 x4 σ h
set_option maxHeartbeats 2000000 in
theorem wk_xdX0_learnt {Γ : sv_G} (z : XZ) (K : XK) (hz : SP (sg_s0 Γ) (sg_dA Γ) z K) (hC : sv_C Γ cX0_learnt 6 RX0 (some .int) rm_X0_learnt) {r0 : Int32 × MSt} (hQ : sv_RQ Γ (sv_pI r0.1 (SW (sg_dA Γ) z K r0.2)) 0 0) (x1 : Int32) (σ : MSt) (h : xdX0_learnt K x1 σ = some r0) : sv_V Γ (SW (sg_dA Γ) z K σ) 0 0 0 [(0, .ref (z.1 0)), (1, .int x1)] [] := by
  unfold xdX0_learnt at h
  refine sv_iload_n hC dX0_learnt_0 1 rfl rfl ?_
  refine sv_i2l hC dX0_learnt_1 ?_
  refine sv_lconst hC (v := 0) dX0_learnt_2 (by decide) ?_
  refine sv_ldc2 hC dX0_learnt_3 q853 ?_
  obtain ⟨r1, er1, h⟩ := sv_ob h
  refine sv_pSi (nn := 3) hC (met_xdX0_in hC.F x1.toInt64 0 2 er1) (lw_S q292 q293 q52 q294) (by decide +kernel) ⟨by decide, by decide⟩ ⟨rfl, rfl⟩ rfl rfl (Nat.le_of_ble_eq_true rfl) ⟨Nat.le_refl 0, Nat.le_refl 0⟩ dX0_learnt_6 ?_
  refine sv_if_ne hC (tgt := 15) dX0_learnt_9 (by decide) (fun c2 => ?_) (fun c2 => ?_)
  · have h := sv_if c2 h
    refine sv_iconst hC (v := 0) dX0_learnt_15 (by decide) ?_
    refine sv_istore_n hC dX0_learnt_16 rfl (by decide) (lvq := [(2, .int 0), (0, .ref (z.1 0)), (1, .int x1)]) rfl ?_
    refine sv_iconst hC (v := (-1)) dX0_learnt_17 (by decide) ?_
    refine sv_istore_n hC dX0_learnt_18 rfl (by decide) (lvq := [(3, .int (-1)), (2, .int 0), (0, .ref (z.1 0)), (1, .int x1)]) rfl ?_
    refine sv_iconst hC (v := 0) dX0_learnt_19 (by decide) ?_
    refine sv_istore hC dX0_learnt_20 (by decide) (lvq := [(4, .int 0), (3, .int (-1)), (2, .int 0), (0, .ref (z.1 0)), (1, .int x1)]) rfl ?_
    refine sv_loc [3, 4, 2, 1, 0] (lvq := [(0, .ref (z.1 0)), (1, .int x1), (2, .int 0), (3, .int (-1)), (4, .int 0)]) rfl ?_
    exact wk_xdX0_learnt_22 z K hz hC hQ sv_FU x1 0 (-1) 0 σ h
  · have h := sv_it c2 h
    refine sv_bipush hC (v := (-3)) dX0_learnt_12 (by decide) ?_
    exact sv_iret hC hQ dX0_learnt_14 (by have e := Option.some.inj h; subst e; exact ⟨rfl, rfl⟩)
set_option maxHeartbeats 2000000 in
theorem met_xdX0_learnt {l : Launch} {s0 : State} {D : va_G} {dA : Nat → ClassId} (hF : sv_F s0 D dA) (z : XZ) (K : XK) (hz : SP s0 dA z K) (x1 : Int32) (σ : MSt) {r0 : Int32 × MSt} (h : xdX0_learnt K x1 σ = some r0) : sv_M l s0 D yX0_learnt cX0_learnt 6 (some .int) rm_X0_learnt [.ref (z.1 0), .int x1] (SW dA z K σ) (sv_pI r0.1 (SW dA z K r0.2)) :=
  sv_met hF (by decide) (Nat.le_of_ble_eq_true rfl) (fun Γ hC hQ hmn e1 e2 e3 e4 => by
    subst e1 e2 e3 e4
    exact wk_xdX0_learnt z K hz hC hQ x1 σ h)
set_option maxHeartbeats 2000000 in
theorem wk_xdX0_toldOf_10b {Γ : sv_G} (a0 : Nat) (n0 : Nat) (u : Nat → Bool) (cA : ClassId) (t0 : Nat) (C : String) (ht : (sv_ty (sg_dA Γ))[t0]? = some (cA, .object C)) (f : Nat → Option Nat) (hu : ∀ j, f j = none ↔ u j = false) (hC : sv_C Γ cX0_toldOf 6 RX0 (some .int) rm_X0_toldOf) {r0 : Int32} (hQ : sv_RQ Γ (sv_pI r0 [(a0, .inl (cA, n0, xq f))]) 0 0)  (rk_10 : Int32 → Int32 → Int32 → Option Int32) (hk_10 : ∀ (x1 : Int32) (x3 : Int32) (x4 : Int32), rk_10 x1 x3 x4 = some r0 → sv_V Γ ([(a0, .inl (cA, n0, xq f))]) 0 0 10 [(1, .int x1), (2, .ref a0), (3, .int x3), (4, .int x4)] []) (x1 : Int32) (x3 : Int32) (x4 : Int32)  (h : xdX0_toldOf_10b n0 u rk_10 x1 x3 x4 = some r0) : sv_V Γ ([(a0, .inl (cA, n0, xq f))]) 0 0 10 [(1, .int x1), (2, .ref a0), (3, .int x3), (4, .int x4)] [] := by
  unfold xdX0_toldOf_10b at h
  refine sv_iload hC dX0_toldOf_10 3 rfl ?_
  refine sv_iload_n hC dX0_toldOf_12 2 rfl rfl ?_
  refine sv_icmp_ge hC (tgt := 41) dX0_toldOf_13 (by decide) (fun c1 => ?_) (fun c1 => ?_)
  · have h := sv_it c1 h
    refine sv_iload_n hC dX0_toldOf_41 0 rfl rfl ?_
    exact sv_iret hC hQ dX0_toldOf_42 (by have e := Option.some.inj h; subst e; exact ⟨rfl, rfl⟩)
  · have h := sv_if c1 h
    refine sv_aload_n hC dX0_toldOf_16 1 rfl rfl ?_
    refine sv_iload hC dX0_toldOf_17 3 rfl ?_
    obtain ⟨j2, ej2, h⟩ := sv_ob h
    refine sv_aldq hC 0 t0 rfl ht (j := j2) ej2 dX0_toldOf_19 ?_
    refine sv_astoreO hC dX0_toldOf_20 (by decide) (lvq := [(5, va_rf (f j2)), (1, .int x1), (2, .ref a0), (3, .int x3), (4, .int x4)]) rfl ?_
    refine sv_iload_n hC dX0_toldOf_22 1 rfl rfl ?_
    refine sv_aloadO hC dX0_toldOf_23 0 rfl ?_
    refine sv_ifnonnullU hC hu (tgt := 32) dX0_toldOf_25 (by decide) (fun c3 => ?_) (fun c3 => ?_)
    · have h := sv_if c3 h
      refine sv_iconst hC (v := 1) dX0_toldOf_32 (by decide) ?_
      refine sv_iadd hC dX0_toldOf_33 ?_
      refine sv_istore_n hC dX0_toldOf_34 rfl (by decide) (lvq := [(1, .int (x1 + 1)), (5, va_rf (f j2)), (2, .ref a0), (3, .int x3), (4, .int x4)]) rfl ?_
      refine sv_iinc hC (v := x4 + 1) dX0_toldOf_35 4 rfl rfl (by decide) (lvq := [(4, .int (x4 + 1)), (1, .int (x1 + 1)), (5, va_rf (f j2)), (2, .ref a0), (3, .int x3)]) rfl ?_
      refine sv_goto hC (tgt := 10) dX0_toldOf_38 (by decide) ?_
      refine sv_loc [1, 3, 4, 0] (lvq := [(1, .int (x1 + 1)), (2, .ref a0), (3, .int x3), (4, .int (x4 + 1))]) rfl ?_
      exact hk_10 (x1 + 1) x3 (x4 + 1) h
    · have h := sv_it c3 h
      refine sv_iconst hC (v := 0) dX0_toldOf_28 (by decide) ?_
      refine sv_goto hC (tgt := 33) dX0_toldOf_29 (by decide) ?_
      refine sv_iadd hC dX0_toldOf_33 ?_
      refine sv_istore_n hC dX0_toldOf_34 rfl (by decide) (lvq := [(1, .int (x1 + 0)), (5, va_rf (f j2)), (2, .ref a0), (3, .int x3), (4, .int x4)]) rfl ?_
      refine sv_iinc hC (v := x4 + 1) dX0_toldOf_35 4 rfl rfl (by decide) (lvq := [(4, .int (x4 + 1)), (1, .int (x1 + 0)), (5, va_rf (f j2)), (2, .ref a0), (3, .int x3)]) rfl ?_
      refine sv_goto hC (tgt := 10) dX0_toldOf_38 (by decide) ?_
      refine sv_loc [1, 3, 4, 0] (lvq := [(1, .int (x1 + 0)), (2, .ref a0), (3, .int x3), (4, .int (x4 + 1))]) rfl ?_
      exact hk_10 (x1 + 0) x3 (x4 + 1) h
set_option maxHeartbeats 2000000 in
theorem wk_xdX0_toldOf_10 {Γ : sv_G} (a0 : Nat) (n0 : Nat) (u : Nat → Bool) (cA : ClassId) (t0 : Nat) (C : String) (ht : (sv_ty (sg_dA Γ))[t0]? = some (cA, .object C)) (f : Nat → Option Nat) (hu : ∀ j, f j = none ↔ u j = false) (hC : sv_C Γ cX0_toldOf 6 RX0 (some .int) rm_X0_toldOf) {r0 : Int32} (hQ : sv_RQ Γ (sv_pI r0 [(a0, .inl (cA, n0, xq f))]) 0 0)  : ∀ (n : Nat) (x1 : Int32) (x3 : Int32) (x4 : Int32)  (h : xdX0_toldOf_10 n0 u n x1 x3 x4 = some r0), sv_V Γ ([(a0, .inl (cA, n0, xq f))]) 0 0 10 [(1, .int x1), (2, .ref a0), (3, .int x3), (4, .int x4)] [] := by
  intro n
  induction n with
  | zero => intro x1 x3 x4 h; cases h
  | succ n ih => intro x1 x3 x4 h; exact wk_xdX0_toldOf_10b a0 n0 u cA t0 C ht f hu hC hQ (xdX0_toldOf_10 n0 u n) ih x1 x3 x4 h
set_option maxHeartbeats 2000000 in
theorem wk_xdX0_toldOf {Γ : sv_G} (a0 : Nat) (n0 : Nat) (u : Nat → Bool) (cA : ClassId) (t0 : Nat) (C : String) (ht : (sv_ty (sg_dA Γ))[t0]? = some (cA, .object C)) (f : Nat → Option Nat) (hu : ∀ j, f j = none ↔ u j = false) (hC : sv_C Γ cX0_toldOf 6 RX0 (some .int) rm_X0_toldOf) {r0 : Int32} (hQ : sv_RQ Γ (sv_pI r0 [(a0, .inl (cA, n0, xq f))]) 0 0)  (h : xdX0_toldOf n0 u  = some r0) : sv_V Γ ([(a0, .inl (cA, n0, xq f))]) 0 0 0 [(0, .ref a0)] [] := by
  unfold xdX0_toldOf at h
  refine sv_iconst hC (v := 0) dX0_toldOf_0 (by decide) ?_
  refine sv_istore_n hC dX0_toldOf_1 rfl (by decide) (lvq := [(1, .int 0), (0, .ref a0)]) rfl ?_
  refine sv_aload_n hC dX0_toldOf_2 1 rfl rfl ?_
  refine sv_astore_n hC dX0_toldOf_3 rfl (by decide) (lvq := [(2, .ref a0), (1, .int 0), (0, .ref a0)]) rfl ?_
  refine sv_aload_n hC dX0_toldOf_4 0 rfl rfl ?_
  refine sv_alen hC 0 t0 rfl ht (v := Int32.ofNat n0) rfl dX0_toldOf_5 ?_
  refine sv_istore_n hC dX0_toldOf_6 rfl (by decide) (lvq := [(3, .int (Int32.ofNat n0)), (2, .ref a0), (1, .int 0), (0, .ref a0)]) rfl ?_
  refine sv_iconst hC (v := 0) dX0_toldOf_7 (by decide) ?_
  refine sv_istore hC dX0_toldOf_8 (by decide) (lvq := [(4, .int 0), (3, .int (Int32.ofNat n0)), (2, .ref a0), (1, .int 0), (0, .ref a0)]) rfl ?_
  refine sv_loc [3, 2, 1, 0] (lvq := [(1, .int 0), (2, .ref a0), (3, .int (Int32.ofNat n0)), (4, .int 0)]) rfl ?_
  exact wk_xdX0_toldOf_10 a0 n0 u cA t0 C ht f hu hC hQ sv_FU 0 (Int32.ofNat n0) 0 h
set_option maxHeartbeats 2000000 in
theorem met_xdX0_toldOf {l : Launch} {s0 : State} {D : va_G} {dA : Nat → ClassId} (hF : sv_F s0 D dA) (a0 : Nat) (n0 : Nat) (u : Nat → Bool) (cA : ClassId) (t0 : Nat) (C : String) (ht : (sv_ty dA)[t0]? = some (cA, .object C)) (f : Nat → Option Nat) (hu : ∀ j, f j = none ↔ u j = false)  {r0 : Int32} (h : xdX0_toldOf n0 u  = some r0) : sv_M l s0 D yX0_toldOf cX0_toldOf 6 (some .int) rm_X0_toldOf [.ref a0] ([(a0, .inl (cA, n0, xq f))]) (sv_pI r0 [(a0, .inl (cA, n0, xq f))]) :=
  sv_met hF (by decide) (Nat.le_of_ble_eq_true rfl) (fun Γ hC hQ hmn e1 e2 e3 e4 => by
    subst e1 e2 e3 e4
    exact wk_xdX0_toldOf a0 n0 u cA t0 C ht f hu hC hQ  h)
set_option maxHeartbeats 2000000 in
theorem wk_xdX0_count {Γ : sv_G} (z : XZ) (K : XK) (hz : SP (sg_s0 Γ) (sg_dA Γ) z K) (σ : MSt) (hC : sv_C Γ cX0_count 2 RX0 (some .int) rm_X0_count) {r0 : Int32} (hQ : sv_RQ Γ (sv_pI r0 (SW (sg_dA Γ) z K σ)) 0 0) (x1 : Int32) (h : xdX0_count K σ x1 = some r0) : sv_V Γ (SW (sg_dA Γ) z K σ) 0 0 0 [(0, .ref (z.1 0)), (1, .int x1)] [] := by
  unfold xdX0_count at h
  refine sv_iload_n hC dX0_count_0 1 rfl rfl ?_
  by_cases c1 : x1 = 0
  · have h := sv_it c1 h
    refine sv_tabIn hC (tgt := 52) dX0_count_1 0 c1 (by decide) (by decide) rfl (by decide) ?_
    refine sv_aload_n hC dX0_count_52 0 rfl rfl ?_
    refine sv_get hC in_X0 0 (sx_at (by decide)) rfl 0 (by decide) q222 rfl (v := .ref (z.1 1)) rfl dX0_count_53 ?_
    obtain ⟨r2, er2, h⟩ := sv_ob h
    refine sv_cSi (nn := 1) hC 1 (sx_at (by decide)) (met_xdX0_toldOf hC.F (z.1 1) 4 (fun j => (K.1 j).isSome) (sg_dA Γ 3) 3 "StrawMen$Field" rfl (fun j => (K.1 j).map (fun _ => z.2.2.1 j)) (fun j => sx_u _ _) er2) (lw_S q1046 q1047 q52 q1048) (by decide +kernel) ⟨by decide, by decide⟩ ⟨rfl, rfl⟩ rfl rfl (Nat.le_of_ble_eq_true rfl) ⟨Nat.le_refl 0, Nat.le_refl 0⟩ dX0_count_56 ?_
    exact sv_iret hC hQ dX0_count_59 (by have e := Option.some.inj h; subst e; exact ⟨rfl, rfl⟩)
  · have h := sv_if c1 h
    by_cases c3 : x1 = 1
    · have h := sv_it c3 h
      refine sv_tabIn hC (tgt := 60) dX0_count_1 1 c3 (by decide) (by decide) rfl (by decide) ?_
      refine sv_aload_n hC dX0_count_60 0 rfl rfl ?_
      refine sv_get hC in_X0 0 (sx_at (by decide)) rfl 1 (by decide) q224 rfl (v := .ref (z.1 2)) rfl dX0_count_61 ?_
      obtain ⟨r4, er4, h⟩ := sv_ob h
      refine sv_cSi (nn := 1) hC 2 (sx_at (by decide)) (met_xdX0_toldOf hC.F (z.1 2) 4 (fun j => (K.2.1 j).isSome) (sg_dA Γ 4) 4 "java/lang/Integer" rfl (fun j => (K.2.1 j).map (fun v => z.2.1 (xb v))) (fun j => sx_u _ _) er4) (lw_S q1046 q1047 q52 q1048) (by decide +kernel) ⟨by decide, by decide⟩ ⟨rfl, rfl⟩ rfl rfl (Nat.le_of_ble_eq_true rfl) ⟨Nat.le_refl 0, Nat.le_refl 0⟩ dX0_count_64 ?_
      exact sv_iret hC hQ dX0_count_67 (by have e := Option.some.inj h; subst e; exact ⟨rfl, rfl⟩)
    · have h := sv_if c3 h
      by_cases c5 : x1 = 2
      · have h := sv_it c5 h
        refine sv_tabIn hC (tgt := 68) dX0_count_1 2 c5 (by decide) (by decide) rfl (by decide) ?_
        refine sv_aload_n hC dX0_count_68 0 rfl rfl ?_
        refine sv_get hC in_X0 0 (sx_at (by decide)) rfl 2 (by decide) q227 rfl (v := .ref (z.1 3)) rfl dX0_count_69 ?_
        obtain ⟨r6, er6, h⟩ := sv_ob h
        refine sv_cSi (nn := 1) hC 3 (sx_at (by decide)) (met_xdX0_toldOf hC.F (z.1 3) 4 (fun j => (K.2.2.1 j).isSome) (sg_dA Γ 5) 5 "StrawMen$Coat" rfl (fun j => (K.2.2.1 j).map (fun _ => z.2.2.2.1 j)) (fun j => sx_u _ _) er6) (lw_S q1046 q1047 q52 q1048) (by decide +kernel) ⟨by decide, by decide⟩ ⟨rfl, rfl⟩ rfl rfl (Nat.le_of_ble_eq_true rfl) ⟨Nat.le_refl 0, Nat.le_refl 0⟩ dX0_count_72 ?_
        exact sv_iret hC hQ dX0_count_75 (by have e := Option.some.inj h; subst e; exact ⟨rfl, rfl⟩)
      · have h := sv_if c5 h
        by_cases c7 : x1 = 3
        · have h := sv_it c7 h
          refine sv_tabIn hC (tgt := 76) dX0_count_1 3 c7 (by decide) (by decide) rfl (by decide) ?_
          refine sv_aload_n hC dX0_count_76 0 rfl rfl ?_
          refine sv_get hC in_X0 0 (sx_at (by decide)) rfl 14 (by decide) q243 rfl (v := .int (σ.1 14)) rfl dX0_count_77 ?_
          exact sv_iret hC hQ dX0_count_80 (by have e := Option.some.inj h; subst e; exact ⟨rfl, rfl⟩)
        · have h := sv_if c7 h
          by_cases c8 : x1 = 4
          · have h := sv_it c8 h
            refine sv_tabIn hC (tgt := 81) dX0_count_1 4 c8 (by decide) (by decide) rfl (by decide) ?_
            refine sv_aload_n hC dX0_count_81 0 rfl rfl ?_
            refine sv_get hC in_X0 0 (sx_at (by decide)) rfl 4 (by decide) q231 rfl (v := .int (σ.1 4)) rfl dX0_count_82 ?_
            exact sv_iret hC hQ dX0_count_85 (by have e := Option.some.inj h; subst e; exact ⟨rfl, rfl⟩)
          · have h := sv_if c8 h
            by_cases c9 : x1 = 5
            · have h := sv_it c9 h
              refine sv_tabIn hC (tgt := 86) dX0_count_1 5 c9 (by decide) (by decide) rfl (by decide) ?_
              refine sv_aload_n hC dX0_count_86 0 rfl rfl ?_
              refine sv_get hC in_X0 0 (sx_at (by decide)) rfl 5 (by decide) q232 rfl (v := .int (σ.1 5)) rfl dX0_count_87 ?_
              exact sv_iret hC hQ dX0_count_90 (by have e := Option.some.inj h; subst e; exact ⟨rfl, rfl⟩)
            · have h := sv_if c9 h
              by_cases c10 : x1 = 6
              · have h := sv_it c10 h
                refine sv_tabIn hC (tgt := 91) dX0_count_1 6 c10 (by decide) (by decide) rfl (by decide) ?_
                refine sv_aload_n hC dX0_count_91 0 rfl rfl ?_
                refine sv_get hC in_X0 0 (sx_at (by decide)) rfl 6 (by decide) q233 rfl (v := .int (σ.1 6)) rfl dX0_count_92 ?_
                exact sv_iret hC hQ dX0_count_95 (by have e := Option.some.inj h; subst e; exact ⟨rfl, rfl⟩)
              · have h := sv_if c10 h
                by_cases c11 : x1 = 7
                · have h := sv_it c11 h
                  refine sv_tabIn hC (tgt := 96) dX0_count_1 7 c11 (by decide) (by decide) rfl (by decide) ?_
                  refine sv_aload_n hC dX0_count_96 0 rfl rfl ?_
                  refine sv_get hC in_X0 0 (sx_at (by decide)) rfl 7 (by decide) q234 rfl (v := .int (σ.1 7)) rfl dX0_count_97 ?_
                  exact sv_iret hC hQ dX0_count_100 (by have e := Option.some.inj h; subst e; exact ⟨rfl, rfl⟩)
                · have h := sv_if c11 h
                  by_cases c12 : x1 = 8
                  · have h := sv_it c12 h
                    refine sv_tabIn hC (tgt := 101) dX0_count_1 8 c12 (by decide) (by decide) rfl (by decide) ?_
                    refine sv_aload_n hC dX0_count_101 0 rfl rfl ?_
                    refine sv_get hC in_X0 0 (sx_at (by decide)) rfl 18 (by decide) q247 rfl (v := .ref (z.1 19)) rfl dX0_count_102 ?_
                    refine sv_wVi (nn := 0) hC (met_J3_size hC.F z K σ) 19 7 (sx_at (by decide)) rfl rfl (lw_V q950 q951 q952 q61 q953) (by decide +kernel) ⟨by decide, by decide⟩ ⟨rfl, rfl⟩ rfl rfl (Nat.le_of_ble_eq_true rfl) ⟨Nat.le_refl 0, Nat.le_refl 0⟩ dX0_count_105 ?_
                    exact sv_iret hC hQ dX0_count_108 (by have e := Option.some.inj h; subst e; exact ⟨rfl, rfl⟩)
                  · have h := sv_if c12 h
                    have hso : x1.toInt < 0 ∨ ((8 : Nat) : Int) < x1.toInt := sv_swOut (N := 8) (by decide) (fun j hj => by
                      rcases (show j = 0 ∨ j = 1 ∨ j = 2 ∨ j = 3 ∨ j = 4 ∨ j = 5 ∨ j = 6 ∨ j = 7 ∨ j = 8 by omega) with rfl | rfl | rfl | rfl | rfl | rfl | rfl | rfl | rfl
                      · exact c1
                      · exact c3
                      · exact c5
                      · exact c7
                      · exact c8
                      · exact c9
                      · exact c10
                      · exact c11
                      · exact c12)
                    refine sv_tabOut hC (tgt := 109) dX0_count_1 hso (by decide) ?_
                    refine sv_bipush hC (v := (-3)) dX0_count_109 (by decide) ?_
                    exact sv_iret hC hQ dX0_count_111 (by have e := Option.some.inj h; subst e; exact ⟨rfl, rfl⟩)
set_option maxHeartbeats 2000000 in
theorem met_xdX0_count {l : Launch} {s0 : State} {D : va_G} {dA : Nat → ClassId} (hF : sv_F s0 D dA) (z : XZ) (K : XK) (hz : SP s0 dA z K) (σ : MSt) (x1 : Int32) {r0 : Int32} (h : xdX0_count K σ x1 = some r0) : sv_M l s0 D yX0_count cX0_count 2 (some .int) rm_X0_count [.ref (z.1 0), .int x1] (SW dA z K σ) (sv_pI r0 (SW dA z K σ)) :=
  sv_met hF (by decide) (Nat.le_of_ble_eq_true rfl) (fun Γ hC hQ hmn e1 e2 e3 e4 => by
    subst e1 e2 e3 e4
    exact wk_xdX0_count z K hz σ hC hQ x1 h)
