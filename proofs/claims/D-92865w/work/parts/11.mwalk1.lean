/-! THE MODEL's METHODS: their walks (printed by gen_model.py) -/
set_option maxRecDepth 100000
set_option maxHeartbeats 2000000 in
theorem wk_md_coatAt_78 {Γ : sv_G} (ho : Nat) (a : Nat → Nat) (σ : MSt) (hC : sv_C Γ cX6_coatAt 4 RX6 (some .int) rm_X6_coatAt) {r0 : Int32} (hQ : sv_RQ Γ (sv_pI r0 (MW (sg_dA Γ) ho a σ)) 0 0)  (x2 : Int32) (x3 : Int32)  (h : md_coatAt_78 σ x2 x3 = some r0) : sv_V Γ (MW (sg_dA Γ) ho a σ) 0 0 78 [(0, .ref ho), (2, .int x2), (3, .int x3)] [] := by
  unfold md_coatAt_78 at h
  refine sv_iload_n hC dX6_coatAt_78 2 rfl rfl ?_
  refine sv_iconst hC (v := (-1)) dX6_coatAt_79 (by decide) ?_
  refine sv_icmp_eq hC (tgt := 129) dX6_coatAt_80 (by decide) (fun c7 => ?_) (fun c7 => ?_)
  · have h := sv_it c7 h
    refine sv_iconst hC (v := (-1)) dX6_coatAt_129 (by decide) ?_
    refine sv_goto hC (tgt := 134) dX6_coatAt_130 (by decide) ?_
    exact sv_iret hC hQ dX6_coatAt_134 (by have e := Option.some.inj h; subst e; exact ⟨rfl, rfl⟩)
  · have h := sv_if c7 h
    refine sv_iload_n hC dX6_coatAt_83 2 rfl rfl ?_
    refine sv_aload_n hC dX6_coatAt_84 0 rfl rfl ?_
    refine sv_get hC in_X6 0 rfl rfl 25 (by decide) q1081 rfl (v := .int (σ.1 25)) rfl dX6_coatAt_85 ?_
    refine sv_icmp_eq hC (tgt := 129) dX6_coatAt_88 (by decide) (fun c8 => ?_) (fun c8 => ?_)
    · have h := sv_it c8 h
      refine sv_iconst hC (v := (-1)) dX6_coatAt_129 (by decide) ?_
      refine sv_goto hC (tgt := 134) dX6_coatAt_130 (by decide) ?_
      exact sv_iret hC hQ dX6_coatAt_134 (by have e := Option.some.inj h; subst e; exact ⟨rfl, rfl⟩)
    · have h := sv_if c8 h
      refine sv_aload_n hC dX6_coatAt_91 0 rfl rfl ?_
      refine sv_get hC in_X6 0 rfl rfl 10 (by decide) q1066 rfl (v := .int (σ.1 10)) rfl dX6_coatAt_92 ?_
      refine sv_iload_n hC dX6_coatAt_95 2 rfl rfl ?_
      obtain ⟨r9, er9, h⟩ := sv_ob h
      refine sv_pSi (nn := 2) hC (met_md_has hC.F (σ.1 10) x3 er9) (lw_S q1243 q1244 q62 q1245) (by decide +kernel) ⟨by decide, by decide⟩ ⟨rfl, rfl⟩ rfl rfl (Nat.le_of_ble_eq_true rfl) ⟨Nat.le_refl 0, Nat.le_refl 0⟩ dX6_coatAt_96 ?_
      refine sv_if_eq hC (tgt := 129) dX6_coatAt_99 (by decide) (fun c10 => ?_) (fun c10 => ?_)
      · have h := sv_it c10 h
        refine sv_iconst hC (v := (-1)) dX6_coatAt_129 (by decide) ?_
        refine sv_goto hC (tgt := 134) dX6_coatAt_130 (by decide) ?_
        exact sv_iret hC hQ dX6_coatAt_134 (by have e := Option.some.inj h; subst e; exact ⟨rfl, rfl⟩)
      · have h := sv_if c10 h
        refine sv_aload_n hC dX6_coatAt_102 0 rfl rfl ?_
        refine sv_get hC in_X6 0 rfl rfl 4 (by decide) q1060 rfl (v := .int (σ.1 4)) rfl dX6_coatAt_103 ?_
        refine sv_iload_n hC dX6_coatAt_106 1 rfl rfl ?_
        obtain ⟨r11, er11, h⟩ := sv_ob h
        refine sv_pSi (nn := 2) hC (met_md_has hC.F (σ.1 4) x2 er11) (lw_S q1243 q1244 q62 q1245) (by decide +kernel) ⟨by decide, by decide⟩ ⟨rfl, rfl⟩ rfl rfl (Nat.le_of_ble_eq_true rfl) ⟨Nat.le_refl 0, Nat.le_refl 0⟩ dX6_coatAt_107 ?_
        refine sv_if_eq hC (tgt := 129) dX6_coatAt_110 (by decide) (fun c12 => ?_) (fun c12 => ?_)
        · have h := sv_it c12 h
          refine sv_iconst hC (v := (-1)) dX6_coatAt_129 (by decide) ?_
          refine sv_goto hC (tgt := 134) dX6_coatAt_130 (by decide) ?_
          exact sv_iret hC hQ dX6_coatAt_134 (by have e := Option.some.inj h; subst e; exact ⟨rfl, rfl⟩)
        · have h := sv_if c12 h
          refine sv_aload_n hC dX6_coatAt_113 0 rfl rfl ?_
          refine sv_get hC in_X6 0 rfl rfl 24 (by decide) q1080 rfl (v := .int (σ.1 24)) rfl dX6_coatAt_114 ?_
          refine sv_aload_n hC dX6_coatAt_117 0 rfl rfl ?_
          refine sv_get hC in_X6 0 rfl rfl 7 (by decide) q1063 rfl (v := .ref (a 7)) rfl dX6_coatAt_118 ?_
          refine sv_iload_n hC dX6_coatAt_121 1 rfl rfl ?_
          obtain ⟨j13, ej13, h⟩ := sv_ob h
          refine sv_iald hC 5 (f := σ.2 7) rfl rfl (j := j13) ej13 dX6_coatAt_122 ?_
          obtain ⟨r14, er14, h⟩ := sv_ob h
          refine sv_pSi (nn := 2) hC (met_md_has hC.F (σ.1 24) (σ.2 7 j13) er14) (lw_S q1243 q1244 q62 q1245) (by decide +kernel) ⟨by decide, by decide⟩ ⟨rfl, rfl⟩ rfl rfl (Nat.le_of_ble_eq_true rfl) ⟨Nat.le_refl 0, Nat.le_refl 0⟩ dX6_coatAt_123 ?_
          refine sv_if_ne hC (tgt := 133) dX6_coatAt_126 (by decide) (fun c15 => ?_) (fun c15 => ?_)
          · have h := sv_if c15 h
            refine sv_iload_n hC dX6_coatAt_133 2 rfl rfl ?_
            exact sv_iret hC hQ dX6_coatAt_134 (by have e := Option.some.inj h; subst e; exact ⟨rfl, rfl⟩)
          · have h := sv_it c15 h
            refine sv_iconst hC (v := (-1)) dX6_coatAt_129 (by decide) ?_
            refine sv_goto hC (tgt := 134) dX6_coatAt_130 (by decide) ?_
            exact sv_iret hC hQ dX6_coatAt_134 (by have e := Option.some.inj h; subst e; exact ⟨rfl, rfl⟩)
set_option maxHeartbeats 2000000 in
theorem wk_md_coatAt_40 {Γ : sv_G} (ho : Nat) (a : Nat → Nat) (σ : MSt) (hC : sv_C Γ cX6_coatAt 4 RX6 (some .int) rm_X6_coatAt) {r0 : Int32} (hQ : sv_RQ Γ (sv_pI r0 (MW (sg_dA Γ) ho a σ)) 0 0)  (x2 : Int32) (t0 : Int32)  (h : md_coatAt_40 σ x2 t0 = some r0) : sv_V Γ (MW (sg_dA Γ) ho a σ) 0 0 40 [(0, .ref ho), (2, .int x2)] [.int t0] := by
  unfold md_coatAt_40 at h
  refine sv_istore_n hC dX6_coatAt_40 rfl (by decide) (lvq := [(3, .int t0), (0, .ref ho), (2, .int x2)]) rfl ?_
  refine sv_aload_n hC dX6_coatAt_41 1 rfl rfl ?_
  refine sv_get hC in_X6 0 rfl rfl 26 (by decide) q1082 rfl (v := .int (σ.1 26)) rfl dX6_coatAt_42 ?_
  refine sv_iconst hC (v := (-1)) dX6_coatAt_45 (by decide) ?_
  refine sv_icmp_eq hC (tgt := 78) dX6_coatAt_46 (by decide) (fun c4 => ?_) (fun c4 => ?_)
  · have h := sv_it c4 h
    refine sv_loc [1, 2, 0] (lvq := [(0, .ref ho), (2, .int x2), (3, .int t0)]) rfl ?_
    exact wk_md_coatAt_78 ho a σ hC hQ x2 t0 h
  · have h := sv_if c4 h
    refine sv_iload_n hC dX6_coatAt_49 2 rfl rfl ?_
    refine sv_aload_n hC dX6_coatAt_50 1 rfl rfl ?_
    refine sv_get hC in_X6 0 rfl rfl 27 (by decide) q1083 rfl (v := .int (σ.1 27)) rfl dX6_coatAt_51 ?_
    refine sv_icmp_ne hC (tgt := 64) dX6_coatAt_54 (by decide) (fun c5 => ?_) (fun c5 => ?_)
    · have h := sv_if c5 h
      refine sv_iload_n hC dX6_coatAt_64 0 rfl rfl ?_
      refine sv_aload_n hC dX6_coatAt_65 1 rfl rfl ?_
      refine sv_get hC in_X6 0 rfl rfl 26 (by decide) q1082 rfl (v := .int (σ.1 26)) rfl dX6_coatAt_66 ?_
      refine sv_icmp_ne hC (tgt := 76) dX6_coatAt_69 (by decide) (fun c6 => ?_) (fun c6 => ?_)
      · have h := sv_if c6 h
        refine sv_iload_n hC dX6_coatAt_76 0 rfl rfl ?_
        refine sv_istore_n hC dX6_coatAt_77 rfl (by decide) (lvq := [(3, .int t0), (0, .ref ho), (2, .int x2)]) rfl ?_
        refine sv_loc [1, 2, 0] (lvq := [(0, .ref ho), (2, .int x2), (3, .int t0)]) rfl ?_
        exact wk_md_coatAt_78 ho a σ hC hQ x2 t0 h
      · have h := sv_it c6 h
        refine sv_iconst hC (v := (-1)) dX6_coatAt_72 (by decide) ?_
        refine sv_goto hC (tgt := 77) dX6_coatAt_73 (by decide) ?_
        refine sv_istore_n hC dX6_coatAt_77 rfl (by decide) (lvq := [(3, .int (-1)), (0, .ref ho), (2, .int x2)]) rfl ?_
        refine sv_loc [1, 2, 0] (lvq := [(0, .ref ho), (2, .int x2), (3, .int (-1))]) rfl ?_
        exact wk_md_coatAt_78 ho a σ hC hQ x2 (-1) h
    · have h := sv_it c5 h
      refine sv_aload_n hC dX6_coatAt_57 1 rfl rfl ?_
      refine sv_get hC in_X6 0 rfl rfl 26 (by decide) q1082 rfl (v := .int (σ.1 26)) rfl dX6_coatAt_58 ?_
      refine sv_goto hC (tgt := 77) dX6_coatAt_61 (by decide) ?_
      refine sv_istore_n hC dX6_coatAt_77 rfl (by decide) (lvq := [(3, .int (σ.1 26)), (0, .ref ho), (2, .int x2)]) rfl ?_
      refine sv_loc [1, 2, 0] (lvq := [(0, .ref ho), (2, .int x2), (3, .int (σ.1 26))]) rfl ?_
      exact wk_md_coatAt_78 ho a σ hC hQ x2 (σ.1 26) h
set_option maxHeartbeats 2000000 in
theorem wk_md_coatAt {Γ : sv_G} (ho : Nat) (a : Nat → Nat) (σ : MSt) (hC : sv_C Γ cX6_coatAt 4 RX6 (some .int) rm_X6_coatAt) {r0 : Int32} (hQ : sv_RQ Γ (sv_pI r0 (MW (sg_dA Γ) ho a σ)) 0 0) (x1 : Int32) (x2 : Int32) (h : md_coatAt σ x1 x2 = some r0) : sv_V Γ (MW (sg_dA Γ) ho a σ) 0 0 0 [(0, .ref ho), (1, .int x1), (2, .int x2)] [] := by
  unfold md_coatAt at h
  refine sv_iload_n hC dX6_coatAt_0 1 rfl rfl ?_
  refine sv_aload_n hC dX6_coatAt_1 0 rfl rfl ?_
  refine sv_get hC in_X6 0 rfl rfl 31 (by decide) q1087 rfl (v := .int (σ.1 31)) rfl dX6_coatAt_2 ?_
  refine sv_icmp_lt hC (tgt := 28) dX6_coatAt_5 (by decide) (fun c1 => ?_) (fun c1 => ?_)
  · have h := sv_it c1 h
    refine sv_aload_n hC dX6_coatAt_28 0 rfl rfl ?_
    refine sv_get hC in_X6 0 rfl rfl 17 (by decide) q1073 rfl (v := .ref (a 17)) rfl dX6_coatAt_29 ?_
    refine sv_iconst hC (v := 4) dX6_coatAt_32 (by decide) ?_
    refine sv_iload_n hC dX6_coatAt_33 1 rfl rfl ?_
    refine sv_imul hC dX6_coatAt_34 ?_
    refine sv_iload_n hC dX6_coatAt_35 2 rfl rfl ?_
    refine sv_iadd hC dX6_coatAt_36 ?_
    obtain ⟨j2, ej2, h⟩ := sv_ob h
    refine sv_iald hC 9 (f := σ.2 17) rfl rfl (j := j2) ej2 dX6_coatAt_37 ?_
    refine sv_iconst hC (v := 1) dX6_coatAt_38 (by decide) ?_
    refine sv_isub hC dX6_coatAt_39 ?_
    refine sv_loc [0, 2] (lvq := [(0, .ref ho), (2, .int x2)]) rfl ?_
    exact wk_md_coatAt_40 ho a σ hC hQ x2 ((σ.2 17 j2) - 1) h
  · have h := sv_if c1 h
    refine sv_aload_n hC dX6_coatAt_8 0 rfl rfl ?_
    refine sv_get hC in_X6 0 rfl rfl 32 (by decide) q1088 rfl (v := .ref (a 32)) rfl dX6_coatAt_9 ?_
    refine sv_iconst hC (v := 4) dX6_coatAt_12 (by decide) ?_
    refine sv_iload_n hC dX6_coatAt_13 1 rfl rfl ?_
    refine sv_aload_n hC dX6_coatAt_14 0 rfl rfl ?_
    refine sv_get hC in_X6 0 rfl rfl 31 (by decide) q1087 rfl (v := .int (σ.1 31)) rfl dX6_coatAt_15 ?_
    refine sv_isub hC dX6_coatAt_18 ?_
    refine sv_imul hC dX6_coatAt_19 ?_
    refine sv_iload_n hC dX6_coatAt_20 2 rfl rfl ?_
    refine sv_iadd hC dX6_coatAt_21 ?_
    obtain ⟨j3, ej3, h⟩ := sv_ob h
    refine sv_iald hC 12 (f := σ.2 32) rfl rfl (j := j3) ej3 dX6_coatAt_22 ?_
    refine sv_iconst hC (v := 1) dX6_coatAt_23 (by decide) ?_
    refine sv_isub hC dX6_coatAt_24 ?_
    refine sv_goto hC (tgt := 40) dX6_coatAt_25 (by decide) ?_
    refine sv_loc [0, 2] (lvq := [(0, .ref ho), (2, .int x2)]) rfl ?_
    exact wk_md_coatAt_40 ho a σ hC hQ x2 ((σ.2 32 j3) - 1) h
set_option maxHeartbeats 2000000 in
theorem met_md_coatAt {l : Launch} {s0 : State} {D : va_G} {dA : Nat → ClassId} (hF : sv_F s0 D dA) (ho : Nat) (a : Nat → Nat) (σ : MSt) (x1 : Int32) (x2 : Int32) {r0 : Int32} (h : md_coatAt σ x1 x2 = some r0) : sv_M l s0 D yX6_coatAt cX6_coatAt 4 (some .int) rm_X6_coatAt [.ref ho, .int x1, .int x2] (MW dA ho a σ) (sv_pI r0 (MW dA ho a σ)) :=
  sv_met hF (by decide) (Nat.le_of_ble_eq_true rfl) (fun Γ hC hQ hmn e1 e2 e3 e4 => by
    subst e1 e2 e3 e4
    exact wk_md_coatAt ho a σ hC hQ x1 x2 h)
set_option maxHeartbeats 2000000 in
theorem wk_md_fly_184 {Γ : sv_G} (ho : Nat) (a : Nat → Nat) (hC : sv_C Γ cX6_fly 9 RX6 none rm_X6_fly) {r0 : MSt} (hQ : sv_RQ Γ (sv_pV (MW (sg_dA Γ) ho a r0)) 0 0)  (x3 : Int32) (t0 : Int32) (σ : MSt)  (h : md_fly_184 x3 t0 σ = some r0) : sv_V Γ (MW (sg_dA Γ) ho a σ) 0 0 184 [(0, .ref ho), (3, .int x3)] [.int t0] := by
  unfold md_fly_184 at h
  refine sv_istore hC dX6_fly_184 (by decide) (lvq := [(5, .int t0), (0, .ref ho), (3, .int x3)]) rfl ?_
  refine sv_aload_n hC dX6_fly_186 1 rfl rfl ?_
  refine sv_get hC in_X6 0 rfl rfl 33 (by decide) q1089 rfl (v := .ref (a 33)) rfl dX6_fly_187 ?_
  refine sv_iload_n hC dX6_fly_190 2 rfl rfl ?_
  refine sv_dup2_11 hC dX6_fly_191 rfl rfl ?_
  obtain ⟨j22, ej22, h⟩ := sv_ob h
  refine sv_iald hC 13 (f := σ.2 33) rfl rfl (j := j22) ej22 dX6_fly_192 ?_
  refine sv_iload hC dX6_fly_193 0 rfl ?_
  refine sv_isub hC dX6_fly_195 ?_
  obtain ⟨j23, ej23, h⟩ := sv_ob h
  refine sv_iast hC 13 (f := σ.2 33) rfl rfl (j := j23) ej23 (Xq := MW (sg_dA Γ) ho a (ms_a σ 33 j23 ((σ.2 33 j22) - t0))) rfl dX6_fly_196 ?_
  refine sv_aload_n hC dX6_fly_197 1 rfl rfl ?_
  refine sv_get hC in_X6 0 rfl rfl 36 (by decide) q1092 rfl (v := .ref (a 36)) rfl dX6_fly_198 ?_
  refine sv_iload_n hC dX6_fly_201 2 rfl rfl ?_
  refine sv_dup2_11 hC dX6_fly_202 rfl rfl ?_
  obtain ⟨j24, ej24, h⟩ := sv_ob h
  refine sv_iald hC 16 (f := σ.2 36) rfl rfl (j := j24) ej24 dX6_fly_203 ?_
  refine sv_iload hC dX6_fly_204 0 rfl ?_
  refine sv_iadd hC dX6_fly_206 ?_
  obtain ⟨j25, ej25, h⟩ := sv_ob h
  refine sv_iast hC 16 (f := σ.2 36) rfl rfl (j := j25) ej25 (Xq := MW (sg_dA Γ) ho a (ms_a (ms_a σ 33 j23 ((σ.2 33 j22) - t0)) 36 j25 ((σ.2 36 j24) + t0))) rfl dX6_fly_207 ?_
  exact sv_vret hC hQ dX6_fly_208 (by have e := Option.some.inj h; subst e; exact ⟨rfl, rfl⟩)
set_option maxHeartbeats 2000000 in
theorem wk_md_fly_119 {Γ : sv_G} (ho : Nat) (a : Nat → Nat) (hC : sv_C Γ cX6_fly 9 RX6 none rm_X6_fly) {r0 : MSt} (hQ : sv_RQ Γ (sv_pV (MW (sg_dA Γ) ho a r0)) 0 0) (rk_8 : Int32 → Int32 → Int32 → Int32 → Int32 → MSt → Option MSt) (hk_8 : ∀ (x1 : Int32) (x2 : Int32) (x3 : Int32) (x4 : Int32) (x5 : Int32) (σ : MSt), rk_8 x1 x2 x3 x4 x5 σ = some r0 → sv_V Γ (MW (sg_dA Γ) ho a σ) 0 0 8 [(0, .ref ho), (1, .int x1), (2, .int x2), (3, .int x3), (4, .int x4), (5, .int x5)] []) (x1 : Int32) (x2 : Int32) (x4 : Int32) (x5 : Int32) (x8 : Int32) (t0 : Int32) (σ : MSt)  (h : md_fly_119 rk_8 x1 x2 x4 x5 x8 t0 σ = some r0) : sv_V Γ (MW (sg_dA Γ) ho a σ) 0 0 119 [(0, .ref ho), (1, .int x1), (2, .int x2), (4, .int x4), (5, .int x5), (8, .int x8)] [.int t0] := by
  unfold md_fly_119 at h
  refine sv_istore_n hC dX6_fly_119 rfl (by decide) (lvq := [(3, .int t0), (0, .ref ho), (1, .int x1), (2, .int x2), (4, .int x4), (5, .int x5), (8, .int x8)]) rfl ?_
  refine sv_iload hC dX6_fly_120 6 rfl ?_
  refine sv_iload hC dX6_fly_122 4 rfl ?_
  refine sv_icmp_le hC (tgt := 132) dX6_fly_124 (by decide) (fun c21 => ?_) (fun c21 => ?_)
  · have h := sv_it c21 h
    refine sv_iload hC dX6_fly_132 4 rfl ?_
    refine sv_istore hC dX6_fly_134 (by decide) (lvq := [(4, .int x4), (3, .int t0), (0, .ref ho), (1, .int x1), (2, .int x2), (5, .int x5), (8, .int x8)]) rfl ?_
    refine sv_iinc hC (v := x5 + 1) dX6_fly_136 5 rfl rfl (by decide) (lvq := [(5, .int (x5 + 1)), (4, .int x4), (3, .int t0), (0, .ref ho), (1, .int x1), (2, .int x2), (8, .int x8)]) rfl ?_
    refine sv_goto hC (tgt := 8) dX6_fly_139 (by decide) ?_
    refine sv_loc [3, 4, 5, 2, 1, 0] (lvq := [(0, .ref ho), (1, .int x1), (2, .int x2), (3, .int t0), (4, .int x4), (5, .int (x5 + 1))]) rfl ?_
    exact hk_8 x1 x2 t0 x4 (x5 + 1) σ h
  · have h := sv_if c21 h
    refine sv_iload hC dX6_fly_127 6 rfl ?_
    refine sv_goto hC (tgt := 134) dX6_fly_129 (by decide) ?_
    refine sv_istore hC dX6_fly_134 (by decide) (lvq := [(4, .int x8), (3, .int t0), (0, .ref ho), (1, .int x1), (2, .int x2), (5, .int x5), (8, .int x8)]) rfl ?_
    refine sv_iinc hC (v := x5 + 1) dX6_fly_136 5 rfl rfl (by decide) (lvq := [(5, .int (x5 + 1)), (4, .int x8), (3, .int t0), (0, .ref ho), (1, .int x1), (2, .int x2), (8, .int x8)]) rfl ?_
    refine sv_goto hC (tgt := 8) dX6_fly_139 (by decide) ?_
    refine sv_loc [3, 4, 5, 2, 1, 0] (lvq := [(0, .ref ho), (1, .int x1), (2, .int x2), (3, .int t0), (4, .int x8), (5, .int (x5 + 1))]) rfl ?_
    exact hk_8 x1 x2 t0 x8 (x5 + 1) σ h
set_option maxHeartbeats 2000000 in
theorem wk_md_fly_103 {Γ : sv_G} (ho : Nat) (a : Nat → Nat) (hC : sv_C Γ cX6_fly 9 RX6 none rm_X6_fly) {r0 : MSt} (hQ : sv_RQ Γ (sv_pV (MW (sg_dA Γ) ho a r0)) 0 0) (rk_8 : Int32 → Int32 → Int32 → Int32 → Int32 → MSt → Option MSt) (hk_8 : ∀ (x1 : Int32) (x2 : Int32) (x3 : Int32) (x4 : Int32) (x5 : Int32) (σ : MSt), rk_8 x1 x2 x3 x4 x5 σ = some r0 → sv_V Γ (MW (sg_dA Γ) ho a σ) 0 0 8 [(0, .ref ho), (1, .int x1), (2, .int x2), (3, .int x3), (4, .int x4), (5, .int x5)] []) (x1 : Int32) (x2 : Int32) (x3 : Int32) (x4 : Int32) (x5 : Int32) (t0 : Int32) (t1 : Int32) (σ : MSt)  (h : md_fly_103 rk_8 x1 x2 x3 x4 x5 t0 t1 σ = some r0) : sv_V Γ (MW (sg_dA Γ) ho a σ) 0 0 103 [(0, .ref ho), (1, .int x1), (2, .int x2), (3, .int x3), (4, .int x4), (5, .int x5)] [.int t1, .int t0] := by
  unfold md_fly_103 at h
  refine sv_isub hC dX6_fly_103 ?_
  refine sv_istore hC dX6_fly_104 (by decide) (lvq := [(8, .int (t0 - t1)), (0, .ref ho), (1, .int x1), (2, .int x2), (3, .int x3), (4, .int x4), (5, .int x5)]) rfl ?_
  refine sv_iload hC dX6_fly_106 0 rfl ?_
  refine sv_iload hC dX6_fly_108 5 rfl ?_
  refine sv_icmp_le hC (tgt := 118) dX6_fly_110 (by decide) (fun c20 => ?_) (fun c20 => ?_)
  · have h := sv_it c20 h
    refine sv_iload_n hC dX6_fly_118 4 rfl rfl ?_
    refine sv_loc [1, 2, 3, 5, 6, 0] (lvq := [(0, .ref ho), (1, .int x1), (2, .int x2), (4, .int x4), (5, .int x5), (8, .int (t0 - t1))]) rfl ?_
    exact wk_md_fly_119 ho a hC hQ rk_8 hk_8 x1 x2 x4 x5 (t0 - t1) x3 σ h
  · have h := sv_if c20 h
    refine sv_iload hC dX6_fly_113 6 rfl ?_
    refine sv_goto hC (tgt := 119) dX6_fly_115 (by decide) ?_
    refine sv_loc [1, 2, 3, 5, 6, 0] (lvq := [(0, .ref ho), (1, .int x1), (2, .int x2), (4, .int x4), (5, .int x5), (8, .int (t0 - t1))]) rfl ?_
    exact wk_md_fly_119 ho a hC hQ rk_8 hk_8 x1 x2 x4 x5 (t0 - t1) x5 σ h
set_option maxHeartbeats 2000000 in
theorem wk_md_fly_67 {Γ : sv_G} (ho : Nat) (a : Nat → Nat) (hC : sv_C Γ cX6_fly 9 RX6 none rm_X6_fly) {r0 : MSt} (hQ : sv_RQ Γ (sv_pV (MW (sg_dA Γ) ho a r0)) 0 0) (rk_8 : Int32 → Int32 → Int32 → Int32 → Int32 → MSt → Option MSt) (hk_8 : ∀ (x1 : Int32) (x2 : Int32) (x3 : Int32) (x4 : Int32) (x5 : Int32) (σ : MSt), rk_8 x1 x2 x3 x4 x5 σ = some r0 → sv_V Γ (MW (sg_dA Γ) ho a σ) 0 0 8 [(0, .ref ho), (1, .int x1), (2, .int x2), (3, .int x3), (4, .int x4), (5, .int x5)] []) (x1 : Int32) (x2 : Int32) (x3 : Int32) (x4 : Int32) (x5 : Int32) (x6 : Int32) (t0 : Int32) (σ : MSt)  (h : md_fly_67 rk_8 x1 x2 x3 x4 x5 x6 t0 σ = some r0) : sv_V Γ (MW (sg_dA Γ) ho a σ) 0 0 67 [(0, .ref ho), (1, .int x1), (2, .int x2), (3, .int x3), (4, .int x4), (5, .int x5), (6, .int x6)] [.int t0] := by
  unfold md_fly_67 at h
  refine sv_istore hC dX6_fly_67 (by decide) (lvq := [(7, .int t0), (0, .ref ho), (1, .int x1), (2, .int x2), (3, .int x3), (4, .int x4), (5, .int x5), (6, .int x6)]) rfl ?_
  refine sv_bipush hC (v := 10) dX6_fly_69 (by decide) ?_
  refine sv_iload hC dX6_fly_71 0 rfl ?_
  refine sv_imul hC dX6_fly_73 ?_
  refine sv_aload_n hC dX6_fly_74 1 rfl rfl ?_
  refine sv_get hC in_X6 0 rfl rfl 6 (by decide) q1062 rfl (v := .ref (a 6)) rfl dX6_fly_75 ?_
  refine sv_iload hC dX6_fly_78 6 rfl ?_
  obtain ⟨j17, ej17, h⟩ := sv_ob h
  refine sv_iald hC 4 (f := σ.2 6) rfl rfl (j := j17) ej17 dX6_fly_80 ?_
  refine sv_isub hC dX6_fly_81 ?_
  refine sv_iload hC dX6_fly_82 7 rfl ?_
  refine sv_iconst hC (v := (-1)) dX6_fly_84 (by decide) ?_
  refine sv_icmp_ne hC (tgt := 92) dX6_fly_85 (by decide) (fun c18 => ?_) (fun c18 => ?_)
  · have h := sv_if c18 h
    refine sv_aload_n hC dX6_fly_92 1 rfl rfl ?_
    refine sv_get hC in_X6 0 rfl rfl 34 (by decide) q1090 rfl (v := .ref (a 34)) rfl dX6_fly_93 ?_
    refine sv_iconst hC (v := 4) dX6_fly_96 (by decide) ?_
    refine sv_iload_n hC dX6_fly_97 3 rfl rfl ?_
    refine sv_imul hC dX6_fly_98 ?_
    refine sv_iload hC dX6_fly_99 7 rfl ?_
    refine sv_iadd hC dX6_fly_101 ?_
    obtain ⟨j19, ej19, h⟩ := sv_ob h
    refine sv_iald hC 14 (f := σ.2 34) rfl rfl (j := j19) ej19 dX6_fly_102 ?_
    refine sv_loc [1, 2, 3, 4, 5, 6] (lvq := [(0, .ref ho), (1, .int x1), (2, .int x2), (3, .int x3), (4, .int x4), (5, .int x5)]) rfl ?_
    exact wk_md_fly_103 ho a hC hQ rk_8 hk_8 x1 x2 x3 x4 x5 ((10 * t0) - (σ.2 6 j17)) (σ.2 34 j19) σ h
  · have h := sv_it c18 h
    refine sv_iconst hC (v := 0) dX6_fly_88 (by decide) ?_
    refine sv_goto hC (tgt := 103) dX6_fly_89 (by decide) ?_
    refine sv_loc [1, 2, 3, 4, 5, 6] (lvq := [(0, .ref ho), (1, .int x1), (2, .int x2), (3, .int x3), (4, .int x4), (5, .int x5)]) rfl ?_
    exact wk_md_fly_103 ho a hC hQ rk_8 hk_8 x1 x2 x3 x4 x5 ((10 * t0) - (σ.2 6 j17)) 0 σ h
set_option maxHeartbeats 2000000 in
theorem wk_md_fly_8b {Γ : sv_G} (ho : Nat) (a : Nat → Nat) (hC : sv_C Γ cX6_fly 9 RX6 none rm_X6_fly) {r0 : MSt} (hQ : sv_RQ Γ (sv_pV (MW (sg_dA Γ) ho a r0)) 0 0)  (rk_8 : Int32 → Int32 → Int32 → Int32 → Int32 → MSt → Option MSt) (hk_8 : ∀ (x1 : Int32) (x2 : Int32) (x3 : Int32) (x4 : Int32) (x5 : Int32) (σ : MSt), rk_8 x1 x2 x3 x4 x5 σ = some r0 → sv_V Γ (MW (sg_dA Γ) ho a σ) 0 0 8 [(0, .ref ho), (1, .int x1), (2, .int x2), (3, .int x3), (4, .int x4), (5, .int x5)] []) (x1 : Int32) (x2 : Int32) (x3 : Int32) (x4 : Int32) (x5 : Int32) (σ : MSt)  (h : md_fly_8b rk_8 x1 x2 x3 x4 x5 σ = some r0) : sv_V Γ (MW (sg_dA Γ) ho a σ) 0 0 8 [(0, .ref ho), (1, .int x1), (2, .int x2), (3, .int x3), (4, .int x4), (5, .int x5)] [] := by
  unfold md_fly_8b at h
  refine sv_iload hC dX6_fly_8 5 rfl ?_
  refine sv_iconst hC (v := 4) dX6_fly_10 (by decide) ?_
  refine sv_icmp_ge hC (tgt := 142) dX6_fly_11 (by decide) (fun c1 => ?_) (fun c1 => ?_)
  · have h := sv_it c1 h
    refine sv_aload_n hC dX6_fly_142 0 rfl rfl ?_
    refine sv_get hC in_X6 0 rfl rfl 35 (by decide) q1091 rfl (v := .ref (a 35)) rfl dX6_fly_143 ?_
    refine sv_iload_n hC dX6_fly_146 2 rfl rfl ?_
    refine sv_iload_n hC dX6_fly_147 3 rfl rfl ?_
    obtain ⟨j2, ej2, h⟩ := sv_ob h
    refine sv_iast hC 15 (f := σ.2 35) rfl rfl (j := j2) ej2 (Xq := MW (sg_dA Γ) ho a (ms_a σ 35 j2 x3)) rfl dX6_fly_148 ?_
    refine sv_iload_n hC dX6_fly_149 3 rfl rfl ?_
    refine sv_iconst hC (v := (-1)) dX6_fly_150 (by decide) ?_
    refine sv_icmp_eq hC (tgt := 208) dX6_fly_151 (by decide) (fun c3 => ?_) (fun c3 => ?_)
    · have h := sv_it c3 h
      exact sv_vret hC hQ dX6_fly_208 (by have e := Option.some.inj h; subst e; exact ⟨rfl, rfl⟩)
    · have h := sv_if c3 h
      refine sv_aload_n hC dX6_fly_154 0 rfl rfl ?_
      refine sv_get hC in_X6 0 rfl rfl 33 (by decide) q1089 rfl (v := .ref (a 33)) rfl dX6_fly_155 ?_
      refine sv_iload_n hC dX6_fly_158 3 rfl rfl ?_
      obtain ⟨j4, ej4, h⟩ := sv_ob h
      refine sv_iald hC 13 (f := σ.2 33) rfl rfl (j := j4) ej4 dX6_fly_159 ?_
      refine sv_aload_n hC dX6_fly_160 0 rfl rfl ?_
      refine sv_get hC in_X6 0 rfl rfl 9 (by decide) q1065 rfl (v := .ref (a 9)) rfl dX6_fly_161 ?_
      refine sv_iload_n hC dX6_fly_164 2 rfl rfl ?_
      obtain ⟨j5, ej5, h⟩ := sv_ob h
      refine sv_iald hC 6 (f := σ.2 9) rfl rfl (j := j5) ej5 dX6_fly_165 ?_
      refine sv_icmp_ge hC (tgt := 178) dX6_fly_166 (by decide) (fun c6 => ?_) (fun c6 => ?_)
      · have h := sv_it c6 h
        refine sv_aload_n hC dX6_fly_178 0 rfl rfl ?_
        refine sv_get hC in_X6 0 rfl rfl 9 (by decide) q1065 rfl (v := .ref (a 9)) rfl dX6_fly_179 ?_
        refine sv_iload_n hC dX6_fly_182 2 rfl rfl ?_
        obtain ⟨j7, ej7, h⟩ := sv_ob h
        refine sv_iald hC 6 (f := σ.2 9) rfl rfl (j := j7) ej7 dX6_fly_183 ?_
        refine sv_loc [0, 3] (lvq := [(0, .ref ho), (3, .int x3)]) rfl ?_
        exact wk_md_fly_184 ho a hC hQ x3 (σ.2 9 j7) (ms_a σ 35 j2 x3) h
      · have h := sv_if c6 h
        refine sv_aload_n hC dX6_fly_169 0 rfl rfl ?_
        refine sv_get hC in_X6 0 rfl rfl 33 (by decide) q1089 rfl (v := .ref (a 33)) rfl dX6_fly_170 ?_
        refine sv_iload_n hC dX6_fly_173 3 rfl rfl ?_
        obtain ⟨j8, ej8, h⟩ := sv_ob h
        refine sv_iald hC 13 (f := σ.2 33) rfl rfl (j := j8) ej8 dX6_fly_174 ?_
        refine sv_goto hC (tgt := 184) dX6_fly_175 (by decide) ?_
        refine sv_loc [0, 3] (lvq := [(0, .ref ho), (3, .int x3)]) rfl ?_
        exact wk_md_fly_184 ho a hC hQ x3 (σ.2 33 j8) (ms_a σ 35 j2 x3) h
  · have h := sv_if c1 h
    refine sv_aload_n hC dX6_fly_14 0 rfl rfl ?_
    refine sv_get hC in_X6 0 rfl rfl 4 (by decide) q1060 rfl (v := .int (σ.1 4)) rfl dX6_fly_15 ?_
    refine sv_iload hC dX6_fly_18 5 rfl ?_
    obtain ⟨r9, er9, h⟩ := sv_ob h
    refine sv_pSi (nn := 2) hC (met_md_has hC.F (σ.1 4) x5 er9) (lw_S q1243 q1244 q62 q1245) (by decide +kernel) ⟨by decide, by decide⟩ ⟨rfl, rfl⟩ rfl rfl (Nat.le_of_ble_eq_true rfl) ⟨Nat.le_refl 0, Nat.le_refl 0⟩ dX6_fly_20 ?_
    refine sv_if_eq hC (tgt := 136) dX6_fly_23 (by decide) (fun c10 => ?_) (fun c10 => ?_)
    · have h := sv_it c10 h
      refine sv_iinc hC (v := x5 + 1) dX6_fly_136 5 rfl rfl (by decide) (lvq := [(5, .int (x5 + 1)), (0, .ref ho), (1, .int x1), (2, .int x2), (3, .int x3), (4, .int x4)]) rfl ?_
      refine sv_goto hC (tgt := 8) dX6_fly_139 (by decide) ?_
      refine sv_loc [1, 2, 3, 4, 5, 0] (lvq := [(0, .ref ho), (1, .int x1), (2, .int x2), (3, .int x3), (4, .int x4), (5, .int (x5 + 1))]) rfl ?_
      exact hk_8 x1 x2 x3 x4 (x5 + 1) σ h
    · have h := sv_if c10 h
      refine sv_aload_n hC dX6_fly_26 0 rfl rfl ?_
      refine sv_iload_n hC dX6_fly_27 1 rfl rfl ?_
      refine sv_iload hC dX6_fly_28 5 rfl ?_
      obtain ⟨r11, er11, h⟩ := sv_ob h
      refine sv_wVi (nn := 2) hC (met_md_coatAt hC.F ho a σ x1 x5 er11) 0 0 rfl rfl rfl (lw_V q1300 q1302 qs39 q62 q1303) (by decide +kernel) ⟨by decide, by decide⟩ ⟨rfl, rfl⟩ rfl rfl (Nat.le_of_ble_eq_true rfl) ⟨Nat.le_refl 0, Nat.le_refl 0⟩ dX6_fly_30 ?_
      refine sv_istore hC dX6_fly_33 (by decide) (lvq := [(6, .int r11), (0, .ref ho), (1, .int x1), (2, .int x2), (3, .int x3), (4, .int x4), (5, .int x5)]) rfl ?_
      refine sv_aload_n hC dX6_fly_35 1 rfl rfl ?_
      refine sv_get hC in_X6 0 rfl rfl 33 (by decide) q1089 rfl (v := .ref (a 33)) rfl dX6_fly_36 ?_
      refine sv_iload hC dX6_fly_39 6 rfl ?_
      obtain ⟨j12, ej12, h⟩ := sv_ob h
      refine sv_iald hC 13 (f := σ.2 33) rfl rfl (j := j12) ej12 dX6_fly_41 ?_
      refine sv_aload_n hC dX6_fly_42 1 rfl rfl ?_
      refine sv_get hC in_X6 0 rfl rfl 9 (by decide) q1065 rfl (v := .ref (a 9)) rfl dX6_fly_43 ?_
      refine sv_iload_n hC dX6_fly_46 3 rfl rfl ?_
      obtain ⟨j13, ej13, h⟩ := sv_ob h
      refine sv_iald hC 6 (f := σ.2 9) rfl rfl (j := j13) ej13 dX6_fly_47 ?_
      refine sv_icmp_ge hC (tgt := 61) dX6_fly_48 (by decide) (fun c14 => ?_) (fun c14 => ?_)
      · have h := sv_it c14 h
        refine sv_aload_n hC dX6_fly_61 1 rfl rfl ?_
        refine sv_get hC in_X6 0 rfl rfl 9 (by decide) q1065 rfl (v := .ref (a 9)) rfl dX6_fly_62 ?_
        refine sv_iload_n hC dX6_fly_65 3 rfl rfl ?_
        obtain ⟨j15, ej15, h⟩ := sv_ob h
        refine sv_iald hC 6 (f := σ.2 9) rfl rfl (j := j15) ej15 dX6_fly_66 ?_
        refine sv_loc [1, 2, 3, 4, 5, 6, 0] (lvq := [(0, .ref ho), (1, .int x1), (2, .int x2), (3, .int x3), (4, .int x4), (5, .int x5), (6, .int r11)]) rfl ?_
        exact wk_md_fly_67 ho a hC hQ rk_8 hk_8 x1 x2 x3 x4 x5 r11 (σ.2 9 j15) σ h
      · have h := sv_if c14 h
        refine sv_aload_n hC dX6_fly_51 1 rfl rfl ?_
        refine sv_get hC in_X6 0 rfl rfl 33 (by decide) q1089 rfl (v := .ref (a 33)) rfl dX6_fly_52 ?_
        refine sv_iload hC dX6_fly_55 6 rfl ?_
        obtain ⟨j16, ej16, h⟩ := sv_ob h
        refine sv_iald hC 13 (f := σ.2 33) rfl rfl (j := j16) ej16 dX6_fly_57 ?_
        refine sv_goto hC (tgt := 67) dX6_fly_58 (by decide) ?_
        refine sv_loc [1, 2, 3, 4, 5, 6, 0] (lvq := [(0, .ref ho), (1, .int x1), (2, .int x2), (3, .int x3), (4, .int x4), (5, .int x5), (6, .int r11)]) rfl ?_
        exact wk_md_fly_67 ho a hC hQ rk_8 hk_8 x1 x2 x3 x4 x5 r11 (σ.2 33 j16) σ h
set_option maxHeartbeats 2000000 in
theorem wk_md_fly_8 {Γ : sv_G} (ho : Nat) (a : Nat → Nat) (hC : sv_C Γ cX6_fly 9 RX6 none rm_X6_fly) {r0 : MSt} (hQ : sv_RQ Γ (sv_pV (MW (sg_dA Γ) ho a r0)) 0 0)  : ∀ (n : Nat) (x1 : Int32) (x2 : Int32) (x3 : Int32) (x4 : Int32) (x5 : Int32) (σ : MSt)  (h : md_fly_8 n x1 x2 x3 x4 x5 σ = some r0), sv_V Γ (MW (sg_dA Γ) ho a σ) 0 0 8 [(0, .ref ho), (1, .int x1), (2, .int x2), (3, .int x3), (4, .int x4), (5, .int x5)] [] := by
  intro n
  induction n with
  | zero => intro x1 x2 x3 x4 x5 σ h; cases h
  | succ n ih => intro x1 x2 x3 x4 x5 σ h; exact wk_md_fly_8b ho a hC hQ (md_fly_8 n) ih x1 x2 x3 x4 x5 σ h
set_option maxHeartbeats 2000000 in
theorem wk_md_fly {Γ : sv_G} (ho : Nat) (a : Nat → Nat) (hC : sv_C Γ cX6_fly 9 RX6 none rm_X6_fly) {r0 : MSt} (hQ : sv_RQ Γ (sv_pV (MW (sg_dA Γ) ho a r0)) 0 0) (x1 : Int32) (x2 : Int32) (σ : MSt) (h : md_fly x1 x2 σ = some r0) : sv_V Γ (MW (sg_dA Γ) ho a σ) 0 0 0 [(0, .ref ho), (1, .int x1), (2, .int x2)] [] := by
  unfold md_fly at h
  refine sv_iconst hC (v := (-1)) dX6_fly_0 (by decide) ?_
  refine sv_istore_n hC dX6_fly_1 rfl (by decide) (lvq := [(3, .int (-1)), (0, .ref ho), (1, .int x1), (2, .int x2)]) rfl ?_
  refine sv_iconst hC (v := 0) dX6_fly_2 (by decide) ?_
  refine sv_istore hC dX6_fly_3 (by decide) (lvq := [(4, .int 0), (3, .int (-1)), (0, .ref ho), (1, .int x1), (2, .int x2)]) rfl ?_
  refine sv_iconst hC (v := 0) dX6_fly_5 (by decide) ?_
  refine sv_istore hC dX6_fly_6 (by decide) (lvq := [(5, .int 0), (4, .int 0), (3, .int (-1)), (0, .ref ho), (1, .int x1), (2, .int x2)]) rfl ?_
  refine sv_loc [3, 4, 5, 2, 1, 0] (lvq := [(0, .ref ho), (1, .int x1), (2, .int x2), (3, .int (-1)), (4, .int 0), (5, .int 0)]) rfl ?_
  exact wk_md_fly_8 ho a hC hQ sv_FU x1 x2 (-1) 0 0 σ h
set_option maxHeartbeats 2000000 in
theorem met_md_fly {l : Launch} {s0 : State} {D : va_G} {dA : Nat → ClassId} (hF : sv_F s0 D dA) (ho : Nat) (a : Nat → Nat) (x1 : Int32) (x2 : Int32) (σ : MSt) {r0 : MSt} (h : md_fly x1 x2 σ = some r0) : sv_M l s0 D yX6_fly cX6_fly 9 none rm_X6_fly [.ref ho, .int x1, .int x2] (MW dA ho a σ) (sv_pV (MW dA ho a r0)) :=
  sv_met hF (by decide) (Nat.le_of_ble_eq_true rfl) (fun Γ hC hQ hmn e1 e2 e3 e4 => by
    subst e1 e2 e3 e4
    exact wk_md_fly ho a hC hQ x1 x2 σ h)
set_option maxHeartbeats 2000000 in
theorem wk_md_isReal {Γ : sv_G} (ho : Nat) (a : Nat → Nat) (σ : MSt) (hC : sv_C Γ cX6_isReal 3 RX6 (some .boolean) rm_X6_isReal) {r0 : Int32} (hQ : sv_RQ Γ (sv_pI r0 (MW (sg_dA Γ) ho a σ)) 0 0) (x1 : Int32) (x2 : Int32) (h : md_isReal σ x1 x2 = some r0) : sv_V Γ (MW (sg_dA Γ) ho a σ) 0 0 0 [(0, .ref ho), (1, .int x1), (2, .int x2)] [] := by
  unfold md_isReal at h
  refine sv_iload_n hC dX6_isReal_0 2 rfl rfl ?_
  refine sv_aload_n hC dX6_isReal_1 0 rfl rfl ?_
  refine sv_get hC in_X6 0 rfl rfl 26 (by decide) q1082 rfl (v := .int (σ.1 26)) rfl dX6_isReal_2 ?_
  refine sv_icmp_ne hC (tgt := 32) dX6_isReal_5 (by decide) (fun c1 => ?_) (fun c1 => ?_)
  · have h := sv_if c1 h
    refine sv_aload_n hC dX6_isReal_32 0 rfl rfl ?_
    refine sv_get hC in_X6 0 rfl rfl 18 (by decide) q1074 rfl (v := .ref (a 18)) rfl dX6_isReal_33 ?_
    refine sv_iload_n hC dX6_isReal_36 1 rfl rfl ?_
    obtain ⟨j2, ej2, h⟩ := sv_ob h
    refine sv_iald hC 10 (f := σ.2 18) rfl rfl (j := j2) ej2 dX6_isReal_37 ?_
    refine sv_iload_n hC dX6_isReal_38 2 rfl rfl ?_
    obtain ⟨r3, er3, h⟩ := sv_ob h
    refine sv_pSi (nn := 2) hC (met_md_has hC.F (σ.2 18 j2) x2 er3) (lw_S q1243 q1244 q62 q1245) (by decide +kernel) ⟨by decide, by decide⟩ ⟨rfl, rfl⟩ rfl rfl (Nat.le_of_ble_eq_true rfl) ⟨Nat.le_refl 0, Nat.le_refl 0⟩ dX6_isReal_39 ?_
    obtain ⟨b4, eb4, h⟩ := sv_ob h
    obtain ⟨e1, e2⟩ := sv_zb_n eb4
    subst e1
    exact sv_zret hC hQ dX6_isReal_42 e2 (by have e := Option.some.inj h; subst e; exact ⟨rfl, rfl⟩)
  · have h := sv_it c1 h
    refine sv_aload_n hC dX6_isReal_8 0 rfl rfl ?_
    refine sv_get hC in_X6 0 rfl rfl 28 (by decide) q1084 rfl (v := .int (σ.1 28)) rfl dX6_isReal_9 ?_
    refine sv_if_le hC (tgt := 28) dX6_isReal_12 (by decide) (fun c5 => ?_) (fun c5 => ?_)
    · have h := sv_it c5 h
      refine sv_iconst hC (v := 0) dX6_isReal_28 (by decide) ?_
      refine sv_goto hC (tgt := 42) dX6_isReal_29 (by decide) ?_
      exact sv_zret hC hQ dX6_isReal_42 rfl (by have e := Option.some.inj h; subst e; exact ⟨rfl, rfl⟩)
    · have h := sv_if c5 h
      refine sv_iload_n hC dX6_isReal_15 1 rfl rfl ?_
      refine sv_aload_n hC dX6_isReal_16 0 rfl rfl ?_
      refine sv_get hC in_X6 0 rfl rfl 28 (by decide) q1084 rfl (v := .int (σ.1 28)) rfl dX6_isReal_17 ?_
      obtain ⟨gd, h⟩ := sv_gn h
      refine sv_irem hC dX6_isReal_20 gd ?_
      refine sv_if_ne hC (tgt := 28) dX6_isReal_21 (by decide) (fun c6 => ?_) (fun c6 => ?_)
      · have h := sv_if c6 h
        refine sv_iconst hC (v := 0) dX6_isReal_28 (by decide) ?_
        refine sv_goto hC (tgt := 42) dX6_isReal_29 (by decide) ?_
        exact sv_zret hC hQ dX6_isReal_42 rfl (by have e := Option.some.inj h; subst e; exact ⟨rfl, rfl⟩)
      · have h := sv_it c6 h
        refine sv_iconst hC (v := 1) dX6_isReal_24 (by decide) ?_
        refine sv_goto hC (tgt := 42) dX6_isReal_25 (by decide) ?_
        exact sv_zret hC hQ dX6_isReal_42 rfl (by have e := Option.some.inj h; subst e; exact ⟨rfl, rfl⟩)
set_option maxHeartbeats 2000000 in
theorem met_md_isReal {l : Launch} {s0 : State} {D : va_G} {dA : Nat → ClassId} (hF : sv_F s0 D dA) (ho : Nat) (a : Nat → Nat) (σ : MSt) (x1 : Int32) (x2 : Int32) {r0 : Int32} (h : md_isReal σ x1 x2 = some r0) : sv_M l s0 D yX6_isReal cX6_isReal 3 (some .boolean) rm_X6_isReal [.ref ho, .int x1, .int x2] (MW dA ho a σ) (sv_pI r0 (MW dA ho a σ)) :=
  sv_met hF (by decide) (Nat.le_of_ble_eq_true rfl) (fun Γ hC hQ hmn e1 e2 e3 e4 => by
    subst e1 e2 e3 e4
    exact wk_md_isReal ho a σ hC hQ x1 x2 h)
set_option maxHeartbeats 2000000 in
theorem wk_md_roost_131b {Γ : sv_G} (ho : Nat) (a : Nat → Nat) (hC : sv_C Γ cX6_roost 6 RX6 none rm_X6_roost) {r0 : MSt} (hQ : sv_RQ Γ (sv_pV (MW (sg_dA Γ) ho a r0)) 0 0) (rk_61 : Int32 → Int32 → Int32 → MSt → Option MSt) (hk_61 : ∀ (x1 : Int32) (x2 : Int32) (x3 : Int32) (σ : MSt), rk_61 x1 x2 x3 σ = some r0 → sv_V Γ (MW (sg_dA Γ) ho a σ) 0 0 61 [(0, .ref ho), (1, .int x1), (2, .int x2), (3, .int x3)] []) (rk_131 : Int32 → Int32 → Int32 → Int32 → Int32 → MSt → Option MSt) (hk_131 : ∀ (x1 : Int32) (x2 : Int32) (x3 : Int32) (x4 : Int32) (x5 : Int32) (σ : MSt), rk_131 x1 x2 x3 x4 x5 σ = some r0 → sv_V Γ (MW (sg_dA Γ) ho a σ) 0 0 131 [(0, .ref ho), (1, .int x1), (2, .int x2), (3, .int x3), (4, .int x4), (5, .int x5)] []) (x1 : Int32) (x2 : Int32) (x3 : Int32) (x4 : Int32) (x5 : Int32) (σ : MSt)  (h : md_roost_131b rk_61 rk_131 x1 x2 x3 x4 x5 σ = some r0) : sv_V Γ (MW (sg_dA Γ) ho a σ) 0 0 131 [(0, .ref ho), (1, .int x1), (2, .int x2), (3, .int x3), (4, .int x4), (5, .int x5)] [] := by
  unfold md_roost_131b at h
  refine sv_iload hC dX6_roost_131 5 rfl ?_
  refine sv_iconst hC (v := 4) dX6_roost_133 (by decide) ?_
  refine sv_icmp_ge hC (tgt := 194) dX6_roost_134 (by decide) (fun c13 => ?_) (fun c13 => ?_)
  · have h := sv_it c13 h
    refine sv_iinc hC (v := x3 + 1) dX6_roost_194 3 rfl rfl (by decide) (lvq := [(3, .int (x3 + 1)), (0, .ref ho), (1, .int x1), (2, .int x2), (4, .int x4), (5, .int x5)]) rfl ?_
    refine sv_goto hC (tgt := 61) dX6_roost_197 (by decide) ?_
    refine sv_loc [1, 2, 3, 0] (lvq := [(0, .ref ho), (1, .int x1), (2, .int x2), (3, .int (x3 + 1))]) rfl ?_
    exact hk_61 x1 x2 (x3 + 1) σ h
  · have h := sv_if c13 h
    refine sv_aload_n hC dX6_roost_137 0 rfl rfl ?_
    refine sv_get hC in_X6 0 rfl rfl 34 (by decide) q1090 rfl (v := .ref (a 34)) rfl dX6_roost_138 ?_
    refine sv_iconst hC (v := 4) dX6_roost_141 (by decide) ?_
    refine sv_iload hC dX6_roost_142 5 rfl ?_
    refine sv_imul hC dX6_roost_144 ?_
    refine sv_iload_n hC dX6_roost_145 3 rfl rfl ?_
    refine sv_iadd hC dX6_roost_146 ?_
    refine sv_dup2_11 hC dX6_roost_147 rfl rfl ?_
    obtain ⟨j14, ej14, h⟩ := sv_ob h
    refine sv_iald hC 14 (f := σ.2 34) rfl rfl (j := j14) ej14 dX6_roost_148 ?_
    refine sv_aload_n hC dX6_roost_149 0 rfl rfl ?_
    refine sv_get hC in_X6 0 rfl rfl 8 (by decide) q1064 rfl (v := .int (σ.1 8)) rfl dX6_roost_150 ?_
    refine sv_iload hC dX6_roost_153 5 rfl ?_
    obtain ⟨r15, er15, h⟩ := sv_ob h
    refine sv_pSi (nn := 2) hC (met_md_has hC.F (σ.1 8) x5 er15) (lw_S q1243 q1244 q62 q1245) (by decide +kernel) ⟨by decide, by decide⟩ ⟨rfl, rfl⟩ rfl rfl (Nat.le_of_ble_eq_true rfl) ⟨Nat.le_refl 0, Nat.le_refl 0⟩ dX6_roost_155 ?_
    refine sv_if_eq hC (tgt := 185) dX6_roost_158 (by decide) (fun c16 => ?_) (fun c16 => ?_)
    · have h := sv_it c16 h
      refine sv_iconst hC (v := 0) dX6_roost_185 (by decide) ?_
      refine sv_iadd hC dX6_roost_186 ?_
      obtain ⟨j17, ej17, h⟩ := sv_ob h
      refine sv_iast hC 14 (f := σ.2 34) rfl rfl (j := j17) ej17 (Xq := MW (sg_dA Γ) ho a (ms_a σ 34 j17 ((σ.2 34 j14) + 0))) rfl dX6_roost_187 ?_
      refine sv_iinc hC (v := x5 + 1) dX6_roost_188 5 rfl rfl (by decide) (lvq := [(5, .int (x5 + 1)), (0, .ref ho), (1, .int x1), (2, .int x2), (3, .int x3), (4, .int x4)]) rfl ?_
      refine sv_goto hC (tgt := 131) dX6_roost_191 (by decide) ?_
      refine sv_loc [1, 2, 3, 4, 5, 0] (lvq := [(0, .ref ho), (1, .int x1), (2, .int x2), (3, .int x3), (4, .int x4), (5, .int (x5 + 1))]) rfl ?_
      exact hk_131 x1 x2 x3 x4 (x5 + 1) (ms_a σ 34 j17 ((σ.2 34 j14) + 0)) h
    · have h := sv_if c16 h
      refine sv_iload hC dX6_roost_161 4 rfl ?_
      refine sv_iload_n hC dX6_roost_163 2 rfl rfl ?_
      obtain ⟨gd, h⟩ := sv_gn h
      refine sv_idiv hC dX6_roost_164 gd ?_
      refine sv_aload_n hC dX6_roost_165 0 rfl rfl ?_
      refine sv_get hC in_X6 0 rfl rfl 34 (by decide) q1090 rfl (v := .ref (a 34)) rfl dX6_roost_166 ?_
      refine sv_iconst hC (v := 4) dX6_roost_169 (by decide) ?_
      refine sv_iload hC dX6_roost_170 5 rfl ?_
      refine sv_imul hC dX6_roost_172 ?_
      refine sv_iload_n hC dX6_roost_173 3 rfl rfl ?_
      refine sv_iadd hC dX6_roost_174 ?_
      obtain ⟨j18, ej18, h⟩ := sv_ob h
      refine sv_iald hC 14 (f := σ.2 34) rfl rfl (j := j18) ej18 dX6_roost_175 ?_
      refine sv_isub hC dX6_roost_176 ?_
      refine sv_iload_n hC dX6_roost_177 1 rfl rfl ?_
      refine sv_imul hC dX6_roost_178 ?_
      refine sv_bipush hC (v := 100) dX6_roost_179 (by decide) ?_
      refine sv_idiv hC dX6_roost_181 (by decide) ?_
      refine sv_goto hC (tgt := 186) dX6_roost_182 (by decide) ?_
      refine sv_iadd hC dX6_roost_186 ?_
      obtain ⟨j19, ej19, h⟩ := sv_ob h
      refine sv_iast hC 14 (f := σ.2 34) rfl rfl (j := j19) ej19 (Xq := MW (sg_dA Γ) ho a (ms_a σ 34 j19 ((σ.2 34 j14) + ((((x4 / x2) - (σ.2 34 j18)) * x1) / 100)))) rfl dX6_roost_187 ?_
      refine sv_iinc hC (v := x5 + 1) dX6_roost_188 5 rfl rfl (by decide) (lvq := [(5, .int (x5 + 1)), (0, .ref ho), (1, .int x1), (2, .int x2), (3, .int x3), (4, .int x4)]) rfl ?_
      refine sv_goto hC (tgt := 131) dX6_roost_191 (by decide) ?_
      refine sv_loc [1, 2, 3, 4, 5, 0] (lvq := [(0, .ref ho), (1, .int x1), (2, .int x2), (3, .int x3), (4, .int x4), (5, .int (x5 + 1))]) rfl ?_
      exact hk_131 x1 x2 x3 x4 (x5 + 1) (ms_a σ 34 j19 ((σ.2 34 j14) + ((((x4 / x2) - (σ.2 34 j18)) * x1) / 100))) h
set_option maxHeartbeats 2000000 in
theorem wk_md_roost_131 {Γ : sv_G} (ho : Nat) (a : Nat → Nat) (hC : sv_C Γ cX6_roost 6 RX6 none rm_X6_roost) {r0 : MSt} (hQ : sv_RQ Γ (sv_pV (MW (sg_dA Γ) ho a r0)) 0 0) (rk_61 : Int32 → Int32 → Int32 → MSt → Option MSt) (hk_61 : ∀ (x1 : Int32) (x2 : Int32) (x3 : Int32) (σ : MSt), rk_61 x1 x2 x3 σ = some r0 → sv_V Γ (MW (sg_dA Γ) ho a σ) 0 0 61 [(0, .ref ho), (1, .int x1), (2, .int x2), (3, .int x3)] []) : ∀ (n : Nat) (x1 : Int32) (x2 : Int32) (x3 : Int32) (x4 : Int32) (x5 : Int32) (σ : MSt)  (h : md_roost_131 rk_61 n x1 x2 x3 x4 x5 σ = some r0), sv_V Γ (MW (sg_dA Γ) ho a σ) 0 0 131 [(0, .ref ho), (1, .int x1), (2, .int x2), (3, .int x3), (4, .int x4), (5, .int x5)] [] := by
  intro n
  induction n with
  | zero => intro x1 x2 x3 x4 x5 σ h; cases h
  | succ n ih => intro x1 x2 x3 x4 x5 σ h; exact wk_md_roost_131b ho a hC hQ rk_61 hk_61 (md_roost_131 rk_61 n) ih x1 x2 x3 x4 x5 σ h
set_option maxHeartbeats 2000000 in
theorem wk_md_roost_76b {Γ : sv_G} (ho : Nat) (a : Nat → Nat) (hC : sv_C Γ cX6_roost 6 RX6 none rm_X6_roost) {r0 : MSt} (hQ : sv_RQ Γ (sv_pV (MW (sg_dA Γ) ho a r0)) 0 0) (rk_61 : Int32 → Int32 → Int32 → MSt → Option MSt) (hk_61 : ∀ (x1 : Int32) (x2 : Int32) (x3 : Int32) (σ : MSt), rk_61 x1 x2 x3 σ = some r0 → sv_V Γ (MW (sg_dA Γ) ho a σ) 0 0 61 [(0, .ref ho), (1, .int x1), (2, .int x2), (3, .int x3)] []) (rk_76 : Int32 → Int32 → Int32 → Int32 → Int32 → MSt → Option MSt) (hk_76 : ∀ (x1 : Int32) (x2 : Int32) (x3 : Int32) (x4 : Int32) (x5 : Int32) (σ : MSt), rk_76 x1 x2 x3 x4 x5 σ = some r0 → sv_V Γ (MW (sg_dA Γ) ho a σ) 0 0 76 [(0, .ref ho), (1, .int x1), (2, .int x2), (3, .int x3), (4, .int x4), (5, .int x5)] []) (x1 : Int32) (x2 : Int32) (x3 : Int32) (x4 : Int32) (x5 : Int32) (σ : MSt)  (h : md_roost_76b rk_61 rk_76 x1 x2 x3 x4 x5 σ = some r0) : sv_V Γ (MW (sg_dA Γ) ho a σ) 0 0 76 [(0, .ref ho), (1, .int x1), (2, .int x2), (3, .int x3), (4, .int x4), (5, .int x5)] [] := by
  unfold md_roost_76b at h
  refine sv_iload hC dX6_roost_76 5 rfl ?_
  refine sv_iconst hC (v := 4) dX6_roost_78 (by decide) ?_
  refine sv_icmp_ge hC (tgt := 128) dX6_roost_79 (by decide) (fun c8 => ?_) (fun c8 => ?_)
  · have h := sv_it c8 h
    refine sv_iconst hC (v := 0) dX6_roost_128 (by decide) ?_
    refine sv_istore hC dX6_roost_129 (by decide) (lvq := [(5, .int 0), (0, .ref ho), (1, .int x1), (2, .int x2), (3, .int x3), (4, .int x4)]) rfl ?_
    refine sv_loc [1, 2, 3, 4, 5, 0] (lvq := [(0, .ref ho), (1, .int x1), (2, .int x2), (3, .int x3), (4, .int x4), (5, .int 0)]) rfl ?_
    exact wk_md_roost_131 ho a hC hQ rk_61 hk_61 sv_FU x1 x2 x3 x4 0 σ h
  · have h := sv_if c8 h
    refine sv_iload hC dX6_roost_82 4 rfl ?_
    refine sv_aload_n hC dX6_roost_84 0 rfl rfl ?_
    refine sv_get hC in_X6 0 rfl rfl 8 (by decide) q1064 rfl (v := .int (σ.1 8)) rfl dX6_roost_85 ?_
    refine sv_iload hC dX6_roost_88 5 rfl ?_
    obtain ⟨r9, er9, h⟩ := sv_ob h
    refine sv_pSi (nn := 2) hC (met_md_has hC.F (σ.1 8) x5 er9) (lw_S q1243 q1244 q62 q1245) (by decide +kernel) ⟨by decide, by decide⟩ ⟨rfl, rfl⟩ rfl rfl (Nat.le_of_ble_eq_true rfl) ⟨Nat.le_refl 0, Nat.le_refl 0⟩ dX6_roost_90 ?_
    refine sv_if_eq hC (tgt := 118) dX6_roost_93 (by decide) (fun c10 => ?_) (fun c10 => ?_)
    · have h := sv_it c10 h
      refine sv_iconst hC (v := 0) dX6_roost_118 (by decide) ?_
      refine sv_iadd hC dX6_roost_119 ?_
      refine sv_istore hC dX6_roost_120 (by decide) (lvq := [(4, .int (x4 + 0)), (0, .ref ho), (1, .int x1), (2, .int x2), (3, .int x3), (5, .int x5)]) rfl ?_
      refine sv_iinc hC (v := x5 + 1) dX6_roost_122 5 rfl rfl (by decide) (lvq := [(5, .int (x5 + 1)), (4, .int (x4 + 0)), (0, .ref ho), (1, .int x1), (2, .int x2), (3, .int x3)]) rfl ?_
      refine sv_goto hC (tgt := 76) dX6_roost_125 (by decide) ?_
      refine sv_loc [2, 3, 4, 5, 1, 0] (lvq := [(0, .ref ho), (1, .int x1), (2, .int x2), (3, .int x3), (4, .int (x4 + 0)), (5, .int (x5 + 1))]) rfl ?_
      exact hk_76 x1 x2 x3 (x4 + 0) (x5 + 1) σ h
    · have h := sv_if c10 h
      refine sv_aload_n hC dX6_roost_96 0 rfl rfl ?_
      refine sv_get hC in_X6 0 rfl rfl 34 (by decide) q1090 rfl (v := .ref (a 34)) rfl dX6_roost_97 ?_
      refine sv_iconst hC (v := 4) dX6_roost_100 (by decide) ?_
      refine sv_iload hC dX6_roost_101 5 rfl ?_
      refine sv_imul hC dX6_roost_103 ?_
      refine sv_iload_n hC dX6_roost_104 3 rfl rfl ?_
      refine sv_iadd hC dX6_roost_105 ?_
      obtain ⟨j11, ej11, h⟩ := sv_ob h
      refine sv_iald hC 14 (f := σ.2 34) rfl rfl (j := j11) ej11 dX6_roost_106 ?_
      refine sv_aload_n hC dX6_roost_107 0 rfl rfl ?_
      refine sv_get hC in_X6 0 rfl rfl 9 (by decide) q1065 rfl (v := .ref (a 9)) rfl dX6_roost_108 ?_
      refine sv_iload hC dX6_roost_111 5 rfl ?_
      obtain ⟨j12, ej12, h⟩ := sv_ob h
      refine sv_iald hC 6 (f := σ.2 9) rfl rfl (j := j12) ej12 dX6_roost_113 ?_
      refine sv_imul hC dX6_roost_114 ?_
      refine sv_goto hC (tgt := 119) dX6_roost_115 (by decide) ?_
      refine sv_iadd hC dX6_roost_119 ?_
      refine sv_istore hC dX6_roost_120 (by decide) (lvq := [(4, .int (x4 + ((σ.2 34 j11) * (σ.2 9 j12)))), (0, .ref ho), (1, .int x1), (2, .int x2), (3, .int x3), (5, .int x5)]) rfl ?_
      refine sv_iinc hC (v := x5 + 1) dX6_roost_122 5 rfl rfl (by decide) (lvq := [(5, .int (x5 + 1)), (4, .int (x4 + ((σ.2 34 j11) * (σ.2 9 j12)))), (0, .ref ho), (1, .int x1), (2, .int x2), (3, .int x3)]) rfl ?_
      refine sv_goto hC (tgt := 76) dX6_roost_125 (by decide) ?_
      refine sv_loc [2, 3, 4, 5, 1, 0] (lvq := [(0, .ref ho), (1, .int x1), (2, .int x2), (3, .int x3), (4, .int (x4 + ((σ.2 34 j11) * (σ.2 9 j12)))), (5, .int (x5 + 1))]) rfl ?_
      exact hk_76 x1 x2 x3 (x4 + ((σ.2 34 j11) * (σ.2 9 j12))) (x5 + 1) σ h
set_option maxHeartbeats 2000000 in
theorem wk_md_roost_76 {Γ : sv_G} (ho : Nat) (a : Nat → Nat) (hC : sv_C Γ cX6_roost 6 RX6 none rm_X6_roost) {r0 : MSt} (hQ : sv_RQ Γ (sv_pV (MW (sg_dA Γ) ho a r0)) 0 0) (rk_61 : Int32 → Int32 → Int32 → MSt → Option MSt) (hk_61 : ∀ (x1 : Int32) (x2 : Int32) (x3 : Int32) (σ : MSt), rk_61 x1 x2 x3 σ = some r0 → sv_V Γ (MW (sg_dA Γ) ho a σ) 0 0 61 [(0, .ref ho), (1, .int x1), (2, .int x2), (3, .int x3)] []) : ∀ (n : Nat) (x1 : Int32) (x2 : Int32) (x3 : Int32) (x4 : Int32) (x5 : Int32) (σ : MSt)  (h : md_roost_76 rk_61 n x1 x2 x3 x4 x5 σ = some r0), sv_V Γ (MW (sg_dA Γ) ho a σ) 0 0 76 [(0, .ref ho), (1, .int x1), (2, .int x2), (3, .int x3), (4, .int x4), (5, .int x5)] [] := by
  intro n
  induction n with
  | zero => intro x1 x2 x3 x4 x5 σ h; cases h
  | succ n ih => intro x1 x2 x3 x4 x5 σ h; exact wk_md_roost_76b ho a hC hQ rk_61 hk_61 (md_roost_76 rk_61 n) ih x1 x2 x3 x4 x5 σ h
set_option maxHeartbeats 2000000 in
theorem wk_md_roost_61b {Γ : sv_G} (ho : Nat) (a : Nat → Nat) (hC : sv_C Γ cX6_roost 6 RX6 none rm_X6_roost) {r0 : MSt} (hQ : sv_RQ Γ (sv_pV (MW (sg_dA Γ) ho a r0)) 0 0)  (rk_61 : Int32 → Int32 → Int32 → MSt → Option MSt) (hk_61 : ∀ (x1 : Int32) (x2 : Int32) (x3 : Int32) (σ : MSt), rk_61 x1 x2 x3 σ = some r0 → sv_V Γ (MW (sg_dA Γ) ho a σ) 0 0 61 [(0, .ref ho), (1, .int x1), (2, .int x2), (3, .int x3)] []) (x1 : Int32) (x2 : Int32) (x3 : Int32) (σ : MSt)  (h : md_roost_61b rk_61 x1 x2 x3 σ = some r0) : sv_V Γ (MW (sg_dA Γ) ho a σ) 0 0 61 [(0, .ref ho), (1, .int x1), (2, .int x2), (3, .int x3)] [] := by
  unfold md_roost_61b at h
  refine sv_iload_n hC dX6_roost_61 3 rfl rfl ?_
  refine sv_iconst hC (v := 4) dX6_roost_62 (by decide) ?_
  refine sv_icmp_ge hC (tgt := 200) dX6_roost_63 (by decide) (fun c6 => ?_) (fun c6 => ?_)
  · have h := sv_it c6 h
    exact sv_vret hC hQ dX6_roost_200 (by have e := Option.some.inj h; subst e; exact ⟨rfl, rfl⟩)
  · have h := sv_if c6 h
    refine sv_iload_n hC dX6_roost_66 2 rfl rfl ?_
    refine sv_if_le hC (tgt := 200) dX6_roost_67 (by decide) (fun c7 => ?_) (fun c7 => ?_)
    · have h := sv_it c7 h
      exact sv_vret hC hQ dX6_roost_200 (by have e := Option.some.inj h; subst e; exact ⟨rfl, rfl⟩)
    · have h := sv_if c7 h
      refine sv_iconst hC (v := 0) dX6_roost_70 (by decide) ?_
      refine sv_istore hC dX6_roost_71 (by decide) (lvq := [(4, .int 0), (0, .ref ho), (1, .int x1), (2, .int x2), (3, .int x3)]) rfl ?_
      refine sv_iconst hC (v := 0) dX6_roost_73 (by decide) ?_
      refine sv_istore hC dX6_roost_74 (by decide) (lvq := [(5, .int 0), (4, .int 0), (0, .ref ho), (1, .int x1), (2, .int x2), (3, .int x3)]) rfl ?_
      refine sv_loc [2, 3, 4, 5, 1, 0] (lvq := [(0, .ref ho), (1, .int x1), (2, .int x2), (3, .int x3), (4, .int 0), (5, .int 0)]) rfl ?_
      exact wk_md_roost_76 ho a hC hQ rk_61 hk_61 sv_FU x1 x2 x3 0 0 σ h
set_option maxHeartbeats 2000000 in
theorem wk_md_roost_61 {Γ : sv_G} (ho : Nat) (a : Nat → Nat) (hC : sv_C Γ cX6_roost 6 RX6 none rm_X6_roost) {r0 : MSt} (hQ : sv_RQ Γ (sv_pV (MW (sg_dA Γ) ho a r0)) 0 0)  : ∀ (n : Nat) (x1 : Int32) (x2 : Int32) (x3 : Int32) (σ : MSt)  (h : md_roost_61 n x1 x2 x3 σ = some r0), sv_V Γ (MW (sg_dA Γ) ho a σ) 0 0 61 [(0, .ref ho), (1, .int x1), (2, .int x2), (3, .int x3)] [] := by
  intro n
  induction n with
  | zero => intro x1 x2 x3 σ h; cases h
  | succ n ih => intro x1 x2 x3 σ h; exact wk_md_roost_61b ho a hC hQ (md_roost_61 n) ih x1 x2 x3 σ h
set_option maxHeartbeats 2000000 in
theorem wk_md_roost_24b {Γ : sv_G} (ho : Nat) (a : Nat → Nat) (hC : sv_C Γ cX6_roost 6 RX6 none rm_X6_roost) {r0 : MSt} (hQ : sv_RQ Γ (sv_pV (MW (sg_dA Γ) ho a r0)) 0 0)  (rk_24 : Int32 → Int32 → Int32 → MSt → Option MSt) (hk_24 : ∀ (x1 : Int32) (x2 : Int32) (x3 : Int32) (σ : MSt), rk_24 x1 x2 x3 σ = some r0 → sv_V Γ (MW (sg_dA Γ) ho a σ) 0 0 24 [(0, .ref ho), (1, .int x1), (2, .int x2), (3, .int x3)] []) (x1 : Int32) (x2 : Int32) (x3 : Int32) (σ : MSt)  (h : md_roost_24b rk_24 x1 x2 x3 σ = some r0) : sv_V Γ (MW (sg_dA Γ) ho a σ) 0 0 24 [(0, .ref ho), (1, .int x1), (2, .int x2), (3, .int x3)] [] := by
  unfold md_roost_24b at h
  refine sv_iload_n hC dX6_roost_24 3 rfl rfl ?_
  refine sv_iconst hC (v := 4) dX6_roost_25 (by decide) ?_
  refine sv_icmp_ge hC (tgt := 59) dX6_roost_26 (by decide) (fun c2 => ?_) (fun c2 => ?_)
  · have h := sv_it c2 h
    refine sv_iconst hC (v := 0) dX6_roost_59 (by decide) ?_
    refine sv_istore_n hC dX6_roost_60 rfl (by decide) (lvq := [(3, .int 0), (0, .ref ho), (1, .int x1), (2, .int x2)]) rfl ?_
    refine sv_loc [1, 2, 3, 0] (lvq := [(0, .ref ho), (1, .int x1), (2, .int x2), (3, .int 0)]) rfl ?_
    exact wk_md_roost_61 ho a hC hQ sv_FU x1 x2 0 σ h
  · have h := sv_if c2 h
    refine sv_iload_n hC dX6_roost_29 2 rfl rfl ?_
    refine sv_aload_n hC dX6_roost_30 0 rfl rfl ?_
    refine sv_get hC in_X6 0 rfl rfl 8 (by decide) q1064 rfl (v := .int (σ.1 8)) rfl dX6_roost_31 ?_
    refine sv_iload_n hC dX6_roost_34 3 rfl rfl ?_
    obtain ⟨r3, er3, h⟩ := sv_ob h
    refine sv_pSi (nn := 2) hC (met_md_has hC.F (σ.1 8) x3 er3) (lw_S q1243 q1244 q62 q1245) (by decide +kernel) ⟨by decide, by decide⟩ ⟨rfl, rfl⟩ rfl rfl (Nat.le_of_ble_eq_true rfl) ⟨Nat.le_refl 0, Nat.le_refl 0⟩ dX6_roost_35 ?_
    refine sv_if_eq hC (tgt := 50) dX6_roost_38 (by decide) (fun c4 => ?_) (fun c4 => ?_)
    · have h := sv_it c4 h
      refine sv_iconst hC (v := 0) dX6_roost_50 (by decide) ?_
      refine sv_iadd hC dX6_roost_51 ?_
      refine sv_istore_n hC dX6_roost_52 rfl (by decide) (lvq := [(2, .int (x2 + 0)), (0, .ref ho), (1, .int x1), (3, .int x3)]) rfl ?_
      refine sv_iinc hC (v := x3 + 1) dX6_roost_53 3 rfl rfl (by decide) (lvq := [(3, .int (x3 + 1)), (2, .int (x2 + 0)), (0, .ref ho), (1, .int x1)]) rfl ?_
      refine sv_goto hC (tgt := 24) dX6_roost_56 (by decide) ?_
      refine sv_loc [2, 3, 1, 0] (lvq := [(0, .ref ho), (1, .int x1), (2, .int (x2 + 0)), (3, .int (x3 + 1))]) rfl ?_
      exact hk_24 x1 (x2 + 0) (x3 + 1) σ h
    · have h := sv_if c4 h
      refine sv_aload_n hC dX6_roost_41 0 rfl rfl ?_
      refine sv_get hC in_X6 0 rfl rfl 9 (by decide) q1065 rfl (v := .ref (a 9)) rfl dX6_roost_42 ?_
      refine sv_iload_n hC dX6_roost_45 3 rfl rfl ?_
      obtain ⟨j5, ej5, h⟩ := sv_ob h
      refine sv_iald hC 6 (f := σ.2 9) rfl rfl (j := j5) ej5 dX6_roost_46 ?_
      refine sv_goto hC (tgt := 51) dX6_roost_47 (by decide) ?_
      refine sv_iadd hC dX6_roost_51 ?_
      refine sv_istore_n hC dX6_roost_52 rfl (by decide) (lvq := [(2, .int (x2 + (σ.2 9 j5))), (0, .ref ho), (1, .int x1), (3, .int x3)]) rfl ?_
      refine sv_iinc hC (v := x3 + 1) dX6_roost_53 3 rfl rfl (by decide) (lvq := [(3, .int (x3 + 1)), (2, .int (x2 + (σ.2 9 j5))), (0, .ref ho), (1, .int x1)]) rfl ?_
      refine sv_goto hC (tgt := 24) dX6_roost_56 (by decide) ?_
      refine sv_loc [2, 3, 1, 0] (lvq := [(0, .ref ho), (1, .int x1), (2, .int (x2 + (σ.2 9 j5))), (3, .int (x3 + 1))]) rfl ?_
      exact hk_24 x1 (x2 + (σ.2 9 j5)) (x3 + 1) σ h
set_option maxHeartbeats 2000000 in
theorem wk_md_roost_24 {Γ : sv_G} (ho : Nat) (a : Nat → Nat) (hC : sv_C Γ cX6_roost 6 RX6 none rm_X6_roost) {r0 : MSt} (hQ : sv_RQ Γ (sv_pV (MW (sg_dA Γ) ho a r0)) 0 0)  : ∀ (n : Nat) (x1 : Int32) (x2 : Int32) (x3 : Int32) (σ : MSt)  (h : md_roost_24 n x1 x2 x3 σ = some r0), sv_V Γ (MW (sg_dA Γ) ho a σ) 0 0 24 [(0, .ref ho), (1, .int x1), (2, .int x2), (3, .int x3)] [] := by
  intro n
  induction n with
  | zero => intro x1 x2 x3 σ h; cases h
  | succ n ih => intro x1 x2 x3 σ h; exact wk_md_roost_24b ho a hC hQ (md_roost_24 n) ih x1 x2 x3 σ h
set_option maxHeartbeats 2000000 in
theorem wk_md_roost {Γ : sv_G} (ho : Nat) (a : Nat → Nat) (hC : sv_C Γ cX6_roost 6 RX6 none rm_X6_roost) {r0 : MSt} (hQ : sv_RQ Γ (sv_pV (MW (sg_dA Γ) ho a r0)) 0 0) (σ : MSt) (h : md_roost σ = some r0) : sv_V Γ (MW (sg_dA Γ) ho a σ) 0 0 0 [(0, .ref ho)] [] := by
  unfold md_roost at h
  refine sv_aload_n hC dX6_roost_0 0 rfl rfl ?_
  refine sv_get hC in_X6 0 rfl rfl 29 (by decide) q1085 rfl (v := .int (σ.1 29)) rfl dX6_roost_1 ?_
  refine sv_iconst hC (v := (-1)) dX6_roost_4 (by decide) ?_
  refine sv_icmp_ne hC (tgt := 15) dX6_roost_5 (by decide) (fun c1 => ?_) (fun c1 => ?_)
  · have h := sv_if c1 h
    refine sv_aload_n hC dX6_roost_15 0 rfl rfl ?_
    refine sv_get hC in_X6 0 rfl rfl 30 (by decide) q1086 rfl (v := .int (σ.1 30)) rfl dX6_roost_16 ?_
    refine sv_istore_n hC dX6_roost_19 rfl (by decide) (lvq := [(1, .int (σ.1 30)), (0, .ref ho)]) rfl ?_
    refine sv_iconst hC (v := 0) dX6_roost_20 (by decide) ?_
    refine sv_istore_n hC dX6_roost_21 rfl (by decide) (lvq := [(2, .int 0), (1, .int (σ.1 30)), (0, .ref ho)]) rfl ?_
    refine sv_iconst hC (v := 0) dX6_roost_22 (by decide) ?_
    refine sv_istore_n hC dX6_roost_23 rfl (by decide) (lvq := [(3, .int 0), (2, .int 0), (1, .int (σ.1 30)), (0, .ref ho)]) rfl ?_
    refine sv_loc [3, 2, 1, 0] (lvq := [(0, .ref ho), (1, .int (σ.1 30)), (2, .int 0), (3, .int 0)]) rfl ?_
    exact wk_md_roost_24 ho a hC hQ sv_FU (σ.1 30) 0 0 σ h
  · have h := sv_it c1 h
    refine sv_aload_n hC dX6_roost_8 0 rfl rfl ?_
    refine sv_get hC in_X6 0 rfl rfl 13 (by decide) q1069 rfl (v := .int (σ.1 13)) rfl dX6_roost_9 ?_
    refine sv_goto hC (tgt := 19) dX6_roost_12 (by decide) ?_
    refine sv_istore_n hC dX6_roost_19 rfl (by decide) (lvq := [(1, .int (σ.1 13)), (0, .ref ho)]) rfl ?_
    refine sv_iconst hC (v := 0) dX6_roost_20 (by decide) ?_
    refine sv_istore_n hC dX6_roost_21 rfl (by decide) (lvq := [(2, .int 0), (1, .int (σ.1 13)), (0, .ref ho)]) rfl ?_
    refine sv_iconst hC (v := 0) dX6_roost_22 (by decide) ?_
    refine sv_istore_n hC dX6_roost_23 rfl (by decide) (lvq := [(3, .int 0), (2, .int 0), (1, .int (σ.1 13)), (0, .ref ho)]) rfl ?_
    refine sv_loc [3, 2, 1, 0] (lvq := [(0, .ref ho), (1, .int (σ.1 13)), (2, .int 0), (3, .int 0)]) rfl ?_
    exact wk_md_roost_24 ho a hC hQ sv_FU (σ.1 13) 0 0 σ h
set_option maxHeartbeats 2000000 in
theorem met_md_roost {l : Launch} {s0 : State} {D : va_G} {dA : Nat → ClassId} (hF : sv_F s0 D dA) (ho : Nat) (a : Nat → Nat) (σ : MSt) {r0 : MSt} (h : md_roost σ = some r0) : sv_M l s0 D yX6_roost cX6_roost 6 none rm_X6_roost [.ref ho] (MW dA ho a σ) (sv_pV (MW dA ho a r0)) :=
  sv_met hF (by decide) (Nat.le_of_ble_eq_true rfl) (fun Γ hC hQ hmn e1 e2 e3 e4 => by
    subst e1 e2 e3 e4
    exact wk_md_roost ho a hC hQ σ h)
set_option maxHeartbeats 2000000 in
theorem wk_md_goDay_120 {Γ : sv_G} (ho : Nat) (a : Nat → Nat) (hC : sv_C Γ cX6_goDay 5 RX6 none rm_X6_goDay) {r0 : MSt} (hQ : sv_RQ Γ (sv_pV (MW (sg_dA Γ) ho a r0)) 0 0) (rk_52 : Int32 → Int32 → MSt → Option MSt) (hk_52 : ∀ (x1 : Int32) (x2 : Int32) (σ : MSt), rk_52 x1 x2 σ = some r0 → sv_V Γ (MW (sg_dA Γ) ho a σ) 0 0 52 [(0, .ref ho), (1, .int x1), (2, .int x2)] []) (x1 : Int32) (x2 : Int32) (x3 : Int32) (t0 : Int32) (σ : MSt)  (h : md_goDay_120 rk_52 x1 x2 x3 t0 σ = some r0) : sv_V Γ (MW (sg_dA Γ) ho a σ) 0 0 120 [(0, .ref ho), (1, .int x1), (2, .int x2), (3, .int x3)] [.int t0] := by
  unfold md_goDay_120 at h
  refine sv_istore hC dX6_goDay_120 (by decide) (lvq := [(4, .int t0), (0, .ref ho), (1, .int x1), (2, .int x2), (3, .int x3)]) rfl ?_
  refine sv_aload_n hC dX6_goDay_122 1 rfl rfl ?_
  refine sv_get hC in_X6 0 rfl rfl 34 (by decide) q1090 rfl (v := .ref (a 34)) rfl dX6_goDay_123 ?_
  refine sv_iconst hC (v := 4) dX6_goDay_126 (by decide) ?_
  refine sv_iload_n hC dX6_goDay_127 3 rfl rfl ?_
  refine sv_imul hC dX6_goDay_128 ?_
  refine sv_iload_n hC dX6_goDay_129 4 rfl rfl ?_
  refine sv_iadd hC dX6_goDay_130 ?_
  refine sv_aload_n hC dX6_goDay_131 1 rfl rfl ?_
  refine sv_iload_n hC dX6_goDay_132 2 rfl rfl ?_
  refine sv_iload_n hC dX6_goDay_133 4 rfl rfl ?_
  obtain ⟨r18, er18, h⟩ := sv_ob h
  refine sv_wVi (nn := 2) hC (met_md_isReal hC.F ho a σ x1 x3 er18) 0 0 rfl rfl rfl (lw_V q1304 q1306 qs40 q62 q1307) (by decide +kernel) ⟨by decide, by decide⟩ ⟨rfl, rfl⟩ rfl rfl (Nat.le_of_ble_eq_true rfl) ⟨Nat.le_refl 0, Nat.le_refl 0⟩ dX6_goDay_134 ?_
  refine sv_if_eq hC (tgt := 146) dX6_goDay_137 (by decide) (fun c19 => ?_) (fun c19 => ?_)
  · have h := sv_it c19 h
    refine sv_aload_n hC dX6_goDay_146 1 rfl rfl ?_
    refine sv_get hC in_X6 0 rfl rfl 34 (by decide) q1090 rfl (v := .ref (a 34)) rfl dX6_goDay_147 ?_
    refine sv_iconst hC (v := 4) dX6_goDay_150 (by decide) ?_
    refine sv_iload_n hC dX6_goDay_151 3 rfl rfl ?_
    refine sv_imul hC dX6_goDay_152 ?_
    refine sv_iload_n hC dX6_goDay_153 4 rfl rfl ?_
    refine sv_iadd hC dX6_goDay_154 ?_
    obtain ⟨j20, ej20, h⟩ := sv_ob h
    refine sv_iald hC 14 (f := σ.2 34) rfl rfl (j := j20) ej20 dX6_goDay_155 ?_
    refine sv_bipush hC (v := 100) dX6_goDay_156 (by decide) ?_
    refine sv_iload hC dX6_goDay_158 0 rfl ?_
    refine sv_isub hC dX6_goDay_160 ?_
    refine sv_imul hC dX6_goDay_161 ?_
    refine sv_bipush hC (v := 100) dX6_goDay_162 (by decide) ?_
    refine sv_idiv hC dX6_goDay_164 (by decide) ?_
    obtain ⟨j21, ej21, h⟩ := sv_ob h
    refine sv_iast hC 14 (f := σ.2 34) rfl rfl (j := j21) ej21 (Xq := MW (sg_dA Γ) ho a (ms_a σ 34 j21 (((σ.2 34 j20) * (100 - t0)) / 100))) rfl dX6_goDay_165 ?_
    refine sv_iinc hC (v := x2 + 1) dX6_goDay_166 3 rfl rfl (by decide) (lvq := [(2, .int (x2 + 1)), (4, .int t0), (0, .ref ho), (1, .int x1), (3, .int x3)]) rfl ?_
    refine sv_goto hC (tgt := 52) dX6_goDay_169 (by decide) ?_
    refine sv_loc [2, 3, 0] (lvq := [(0, .ref ho), (1, .int x1), (2, .int (x2 + 1))]) rfl ?_
    exact hk_52 x1 (x2 + 1) (ms_a σ 34 j21 (((σ.2 34 j20) * (100 - t0)) / 100)) h
  · have h := sv_if c19 h
    refine sv_sipush hC (v := 999) dX6_goDay_140 (by decide) ?_
    refine sv_goto hC (tgt := 165) dX6_goDay_143 (by decide) ?_
    obtain ⟨j22, ej22, h⟩ := sv_ob h
    refine sv_iast hC 14 (f := σ.2 34) rfl rfl (j := j22) ej22 (Xq := MW (sg_dA Γ) ho a (ms_a σ 34 j22 999)) rfl dX6_goDay_165 ?_
    refine sv_iinc hC (v := x2 + 1) dX6_goDay_166 3 rfl rfl (by decide) (lvq := [(2, .int (x2 + 1)), (4, .int t0), (0, .ref ho), (1, .int x1), (3, .int x3)]) rfl ?_
    refine sv_goto hC (tgt := 52) dX6_goDay_169 (by decide) ?_
    refine sv_loc [2, 3, 0] (lvq := [(0, .ref ho), (1, .int x1), (2, .int (x2 + 1))]) rfl ?_
    exact hk_52 x1 (x2 + 1) (ms_a σ 34 j22 999) h
set_option maxHeartbeats 2000000 in
theorem wk_md_goDay_93 {Γ : sv_G} (ho : Nat) (a : Nat → Nat) (hC : sv_C Γ cX6_goDay 5 RX6 none rm_X6_goDay) {r0 : MSt} (hQ : sv_RQ Γ (sv_pV (MW (sg_dA Γ) ho a r0)) 0 0) (rk_52 : Int32 → Int32 → MSt → Option MSt) (hk_52 : ∀ (x1 : Int32) (x2 : Int32) (σ : MSt), rk_52 x1 x2 σ = some r0 → sv_V Γ (MW (sg_dA Γ) ho a σ) 0 0 52 [(0, .ref ho), (1, .int x1), (2, .int x2)] []) (x1 : Int32) (x2 : Int32) (t0 : Int32) (σ : MSt)  (h : md_goDay_93 rk_52 x1 x2 t0 σ = some r0) : sv_V Γ (MW (sg_dA Γ) ho a σ) 0 0 93 [(0, .ref ho), (1, .int x1), (2, .int x2)] [.int t0] := by
  unfold md_goDay_93 at h
  refine sv_istore_n hC dX6_goDay_93 rfl (by decide) (lvq := [(3, .int t0), (0, .ref ho), (1, .int x1), (2, .int x2)]) rfl ?_
  refine sv_iload_n hC dX6_goDay_94 0 rfl rfl ?_
  refine sv_iconst hC (v := (-1)) dX6_goDay_95 (by decide) ?_
  refine sv_icmp_eq hC (tgt := 166) dX6_goDay_96 (by decide) (fun c15 => ?_) (fun c15 => ?_)
  · have h := sv_it c15 h
    refine sv_iinc hC (v := x2 + 1) dX6_goDay_166 3 rfl rfl (by decide) (lvq := [(2, .int (x2 + 1)), (3, .int t0), (0, .ref ho), (1, .int x1)]) rfl ?_
    refine sv_goto hC (tgt := 52) dX6_goDay_169 (by decide) ?_
    refine sv_loc [2, 3, 0] (lvq := [(0, .ref ho), (1, .int x1), (2, .int (x2 + 1))]) rfl ?_
    exact hk_52 x1 (x2 + 1) σ h
  · have h := sv_if c15 h
    refine sv_aload_n hC dX6_goDay_99 1 rfl rfl ?_
    refine sv_get hC in_X6 0 rfl rfl 29 (by decide) q1085 rfl (v := .int (σ.1 29)) rfl dX6_goDay_100 ?_
    refine sv_iconst hC (v := (-1)) dX6_goDay_103 (by decide) ?_
    refine sv_icmp_ne hC (tgt := 116) dX6_goDay_104 (by decide) (fun c16 => ?_) (fun c16 => ?_)
    · have h := sv_if c16 h
      refine sv_aload_n hC dX6_goDay_116 1 rfl rfl ?_
      refine sv_get hC in_X6 0 rfl rfl 29 (by decide) q1085 rfl (v := .int (σ.1 29)) rfl dX6_goDay_117 ?_
      refine sv_loc [1, 2, 3, 0] (lvq := [(0, .ref ho), (1, .int x1), (2, .int x2), (3, .int t0)]) rfl ?_
      exact wk_md_goDay_120 ho a hC hQ rk_52 hk_52 x1 x2 t0 (σ.1 29) σ h
    · have h := sv_it c16 h
      refine sv_aload_n hC dX6_goDay_107 1 rfl rfl ?_
      refine sv_get hC in_X6 0 rfl rfl 12 (by decide) q1068 rfl (v := .ref (a 12)) rfl dX6_goDay_108 ?_
      refine sv_iload_n hC dX6_goDay_111 0 rfl rfl ?_
      obtain ⟨j17, ej17, h⟩ := sv_ob h
      refine sv_iald hC 8 (f := σ.2 12) rfl rfl (j := j17) ej17 dX6_goDay_112 ?_
      refine sv_goto hC (tgt := 120) dX6_goDay_113 (by decide) ?_
      refine sv_loc [1, 2, 3, 0] (lvq := [(0, .ref ho), (1, .int x1), (2, .int x2), (3, .int t0)]) rfl ?_
      exact wk_md_goDay_120 ho a hC hQ rk_52 hk_52 x1 x2 t0 (σ.2 12 j17) σ h
set_option maxHeartbeats 2000000 in
theorem wk_md_goDay_52b {Γ : sv_G} (ho : Nat) (a : Nat → Nat) (hC : sv_C Γ cX6_goDay 5 RX6 none rm_X6_goDay) {r0 : MSt} (hQ : sv_RQ Γ (sv_pV (MW (sg_dA Γ) ho a r0)) 0 0)  (rk_52 : Int32 → Int32 → MSt → Option MSt) (hk_52 : ∀ (x1 : Int32) (x2 : Int32) (σ : MSt), rk_52 x1 x2 σ = some r0 → sv_V Γ (MW (sg_dA Γ) ho a σ) 0 0 52 [(0, .ref ho), (1, .int x1), (2, .int x2)] []) (x1 : Int32) (x2 : Int32) (σ : MSt)  (h : md_goDay_52b rk_52 x1 x2 σ = some r0) : sv_V Γ (MW (sg_dA Γ) ho a σ) 0 0 52 [(0, .ref ho), (1, .int x1), (2, .int x2)] [] := by
  unfold md_goDay_52b at h
  refine sv_iload_n hC dX6_goDay_52 2 rfl rfl ?_
  refine sv_iconst hC (v := 4) dX6_goDay_53 (by decide) ?_
  refine sv_icmp_ge hC (tgt := 172) dX6_goDay_54 (by decide) (fun c7 => ?_) (fun c7 => ?_)
  · have h := sv_it c7 h
    refine sv_aload_n hC dX6_goDay_172 0 rfl rfl ?_
    obtain ⟨s8, es8, h⟩ := sv_ob h
    refine sv_wVv (nn := 0) hC (met_md_roost hC.F ho a σ es8) 0 0 rfl rfl rfl (lw_V q1308 q1310 qs41 q62 q1311) (by decide +kernel) ⟨by decide, by decide⟩ ⟨rfl, rfl⟩ rfl rfl (Nat.le_of_ble_eq_true rfl) ⟨Nat.le_refl 0, Nat.le_refl 0⟩ dX6_goDay_173 ?_
    exact sv_vret hC hQ dX6_goDay_176 (by have e := Option.some.inj h; subst e; exact ⟨rfl, rfl⟩)
  · have h := sv_if c7 h
    refine sv_aload_n hC dX6_goDay_57 0 rfl rfl ?_
    refine sv_get hC in_X6 0 rfl rfl 8 (by decide) q1064 rfl (v := .int (σ.1 8)) rfl dX6_goDay_58 ?_
    refine sv_iload_n hC dX6_goDay_61 2 rfl rfl ?_
    obtain ⟨r9, er9, h⟩ := sv_ob h
    refine sv_pSi (nn := 2) hC (met_md_has hC.F (σ.1 8) x2 er9) (lw_S q1243 q1244 q62 q1245) (by decide +kernel) ⟨by decide, by decide⟩ ⟨rfl, rfl⟩ rfl rfl (Nat.le_of_ble_eq_true rfl) ⟨Nat.le_refl 0, Nat.le_refl 0⟩ dX6_goDay_62 ?_
    refine sv_if_eq hC (tgt := 92) dX6_goDay_65 (by decide) (fun c10 => ?_) (fun c10 => ?_)
    · have h := sv_it c10 h
      refine sv_iconst hC (v := (-1)) dX6_goDay_92 (by decide) ?_
      exact wk_md_goDay_93 ho a hC hQ rk_52 hk_52 x1 x2 (-1) σ h
    · have h := sv_if c10 h
      refine sv_aload_n hC dX6_goDay_68 0 rfl rfl ?_
      refine sv_get hC in_X6 0 rfl rfl 35 (by decide) q1091 rfl (v := .ref (a 35)) rfl dX6_goDay_69 ?_
      refine sv_iload_n hC dX6_goDay_72 2 rfl rfl ?_
      obtain ⟨j11, ej11, h⟩ := sv_ob h
      refine sv_iald hC 15 (f := σ.2 35) rfl rfl (j := j11) ej11 dX6_goDay_73 ?_
      refine sv_iconst hC (v := (-1)) dX6_goDay_74 (by decide) ?_
      refine sv_icmp_eq hC (tgt := 92) dX6_goDay_75 (by decide) (fun c12 => ?_) (fun c12 => ?_)
      · have h := sv_it c12 h
        refine sv_iconst hC (v := (-1)) dX6_goDay_92 (by decide) ?_
        exact wk_md_goDay_93 ho a hC hQ rk_52 hk_52 x1 x2 (-1) σ h
      · have h := sv_if c12 h
        refine sv_aload_n hC dX6_goDay_78 0 rfl rfl ?_
        refine sv_iload_n hC dX6_goDay_79 1 rfl rfl ?_
        refine sv_aload_n hC dX6_goDay_80 0 rfl rfl ?_
        refine sv_get hC in_X6 0 rfl rfl 35 (by decide) q1091 rfl (v := .ref (a 35)) rfl dX6_goDay_81 ?_
        refine sv_iload_n hC dX6_goDay_84 2 rfl rfl ?_
        obtain ⟨j13, ej13, h⟩ := sv_ob h
        refine sv_iald hC 15 (f := σ.2 35) rfl rfl (j := j13) ej13 dX6_goDay_85 ?_
        obtain ⟨r14, er14, h⟩ := sv_ob h
        refine sv_wVi (nn := 2) hC (met_md_coatAt hC.F ho a σ x1 (σ.2 35 j13) er14) 0 0 rfl rfl rfl (lw_V q1300 q1302 qs39 q62 q1303) (by decide +kernel) ⟨by decide, by decide⟩ ⟨rfl, rfl⟩ rfl rfl (Nat.le_of_ble_eq_true rfl) ⟨Nat.le_refl 0, Nat.le_refl 0⟩ dX6_goDay_86 ?_
        refine sv_goto hC (tgt := 93) dX6_goDay_89 (by decide) ?_
        exact wk_md_goDay_93 ho a hC hQ rk_52 hk_52 x1 x2 r14 σ h
set_option maxHeartbeats 2000000 in
theorem wk_md_goDay_52 {Γ : sv_G} (ho : Nat) (a : Nat → Nat) (hC : sv_C Γ cX6_goDay 5 RX6 none rm_X6_goDay) {r0 : MSt} (hQ : sv_RQ Γ (sv_pV (MW (sg_dA Γ) ho a r0)) 0 0)  : ∀ (n : Nat) (x1 : Int32) (x2 : Int32) (σ : MSt)  (h : md_goDay_52 n x1 x2 σ = some r0), sv_V Γ (MW (sg_dA Γ) ho a σ) 0 0 52 [(0, .ref ho), (1, .int x1), (2, .int x2)] [] := by
  intro n
  induction n with
  | zero => intro x1 x2 σ h; cases h
  | succ n ih => intro x1 x2 σ h; exact wk_md_goDay_52b ho a hC hQ (md_goDay_52 n) ih x1 x2 σ h
set_option maxHeartbeats 2000000 in
theorem wk_md_goDay_22b {Γ : sv_G} (ho : Nat) (a : Nat → Nat) (hC : sv_C Γ cX6_goDay 5 RX6 none rm_X6_goDay) {r0 : MSt} (hQ : sv_RQ Γ (sv_pV (MW (sg_dA Γ) ho a r0)) 0 0)  (rk_22 : Int32 → Int32 → MSt → Option MSt) (hk_22 : ∀ (x1 : Int32) (x2 : Int32) (σ : MSt), rk_22 x1 x2 σ = some r0 → sv_V Γ (MW (sg_dA Γ) ho a σ) 0 0 22 [(0, .ref ho), (1, .int x1), (2, .int x2)] []) (x1 : Int32) (x2 : Int32) (σ : MSt)  (h : md_goDay_22b rk_22 x1 x2 σ = some r0) : sv_V Γ (MW (sg_dA Γ) ho a σ) 0 0 22 [(0, .ref ho), (1, .int x1), (2, .int x2)] [] := by
  unfold md_goDay_22b at h
  refine sv_iload_n hC dX6_goDay_22 2 rfl rfl ?_
  refine sv_iconst hC (v := 4) dX6_goDay_23 (by decide) ?_
  refine sv_icmp_ge hC (tgt := 50) dX6_goDay_24 (by decide) (fun c3 => ?_) (fun c3 => ?_)
  · have h := sv_it c3 h
    refine sv_iconst hC (v := 0) dX6_goDay_50 (by decide) ?_
    refine sv_istore_n hC dX6_goDay_51 rfl (by decide) (lvq := [(2, .int 0), (0, .ref ho), (1, .int x1)]) rfl ?_
    refine sv_loc [1, 2, 0] (lvq := [(0, .ref ho), (1, .int x1), (2, .int 0)]) rfl ?_
    exact wk_md_goDay_52 ho a hC hQ sv_FU x1 0 σ h
  · have h := sv_if c3 h
    refine sv_aload_n hC dX6_goDay_27 0 rfl rfl ?_
    refine sv_get hC in_X6 0 rfl rfl 8 (by decide) q1064 rfl (v := .int (σ.1 8)) rfl dX6_goDay_28 ?_
    refine sv_iload_n hC dX6_goDay_31 2 rfl rfl ?_
    obtain ⟨r4, er4, h⟩ := sv_ob h
    refine sv_pSi (nn := 2) hC (met_md_has hC.F (σ.1 8) x2 er4) (lw_S q1243 q1244 q62 q1245) (by decide +kernel) ⟨by decide, by decide⟩ ⟨rfl, rfl⟩ rfl rfl (Nat.le_of_ble_eq_true rfl) ⟨Nat.le_refl 0, Nat.le_refl 0⟩ dX6_goDay_32 ?_
    refine sv_if_eq hC (tgt := 44) dX6_goDay_35 (by decide) (fun c5 => ?_) (fun c5 => ?_)
    · have h := sv_it c5 h
      refine sv_iinc hC (v := x2 + 1) dX6_goDay_44 2 rfl rfl (by decide) (lvq := [(2, .int (x2 + 1)), (0, .ref ho), (1, .int x1)]) rfl ?_
      refine sv_goto hC (tgt := 22) dX6_goDay_47 (by decide) ?_
      refine sv_loc [1, 2, 0] (lvq := [(0, .ref ho), (1, .int x1), (2, .int (x2 + 1))]) rfl ?_
      exact hk_22 x1 (x2 + 1) σ h
    · have h := sv_if c5 h
      refine sv_aload_n hC dX6_goDay_38 0 rfl rfl ?_
      refine sv_iload_n hC dX6_goDay_39 1 rfl rfl ?_
      refine sv_iload_n hC dX6_goDay_40 2 rfl rfl ?_
      obtain ⟨s6, es6, h⟩ := sv_ob h
      refine sv_wVv (nn := 2) hC (met_md_fly hC.F ho a x1 x2 σ es6) 0 0 rfl rfl rfl (lw_V q1296 q1298 qs38 q62 q1299) (by decide +kernel) ⟨by decide, by decide⟩ ⟨rfl, rfl⟩ rfl rfl (Nat.le_of_ble_eq_true rfl) ⟨Nat.le_refl 0, Nat.le_refl 0⟩ dX6_goDay_41 ?_
      refine sv_iinc hC (v := x2 + 1) dX6_goDay_44 2 rfl rfl (by decide) (lvq := [(2, .int (x2 + 1)), (0, .ref ho), (1, .int x1)]) rfl ?_
      refine sv_goto hC (tgt := 22) dX6_goDay_47 (by decide) ?_
      refine sv_loc [1, 2, 0] (lvq := [(0, .ref ho), (1, .int x1), (2, .int (x2 + 1))]) rfl ?_
      exact hk_22 x1 (x2 + 1) s6 h
set_option maxHeartbeats 2000000 in
theorem wk_md_goDay_22 {Γ : sv_G} (ho : Nat) (a : Nat → Nat) (hC : sv_C Γ cX6_goDay 5 RX6 none rm_X6_goDay) {r0 : MSt} (hQ : sv_RQ Γ (sv_pV (MW (sg_dA Γ) ho a r0)) 0 0)  : ∀ (n : Nat) (x1 : Int32) (x2 : Int32) (σ : MSt)  (h : md_goDay_22 n x1 x2 σ = some r0), sv_V Γ (MW (sg_dA Γ) ho a σ) 0 0 22 [(0, .ref ho), (1, .int x1), (2, .int x2)] [] := by
  intro n
  induction n with
  | zero => intro x1 x2 σ h; cases h
  | succ n ih => intro x1 x2 σ h; exact wk_md_goDay_22b ho a hC hQ (md_goDay_22 n) ih x1 x2 σ h
set_option maxHeartbeats 2000000 in
theorem wk_md_goDay_2b {Γ : sv_G} (ho : Nat) (a : Nat → Nat) (hC : sv_C Γ cX6_goDay 5 RX6 none rm_X6_goDay) {r0 : MSt} (hQ : sv_RQ Γ (sv_pV (MW (sg_dA Γ) ho a r0)) 0 0)  (rk_2 : Int32 → Int32 → MSt → Option MSt) (hk_2 : ∀ (x1 : Int32) (x2 : Int32) (σ : MSt), rk_2 x1 x2 σ = some r0 → sv_V Γ (MW (sg_dA Γ) ho a σ) 0 0 2 [(0, .ref ho), (1, .int x1), (2, .int x2)] []) (x1 : Int32) (x2 : Int32) (σ : MSt)  (h : md_goDay_2b rk_2 x1 x2 σ = some r0) : sv_V Γ (MW (sg_dA Γ) ho a σ) 0 0 2 [(0, .ref ho), (1, .int x1), (2, .int x2)] [] := by
  unfold md_goDay_2b at h
  refine sv_iload_n hC dX6_goDay_2 2 rfl rfl ?_
  refine sv_iconst hC (v := 4) dX6_goDay_3 (by decide) ?_
  refine sv_icmp_ge hC (tgt := 20) dX6_goDay_4 (by decide) (fun c1 => ?_) (fun c1 => ?_)
  · have h := sv_it c1 h
    refine sv_iconst hC (v := 0) dX6_goDay_20 (by decide) ?_
    refine sv_istore_n hC dX6_goDay_21 rfl (by decide) (lvq := [(2, .int 0), (0, .ref ho), (1, .int x1)]) rfl ?_
    refine sv_loc [1, 2, 0] (lvq := [(0, .ref ho), (1, .int x1), (2, .int 0)]) rfl ?_
    exact wk_md_goDay_22 ho a hC hQ sv_FU x1 0 σ h
  · have h := sv_if c1 h
    refine sv_aload_n hC dX6_goDay_7 0 rfl rfl ?_
    refine sv_get hC in_X6 0 rfl rfl 36 (by decide) q1092 rfl (v := .ref (a 36)) rfl dX6_goDay_8 ?_
    refine sv_iload_n hC dX6_goDay_11 2 rfl rfl ?_
    refine sv_iconst hC (v := 0) dX6_goDay_12 (by decide) ?_
    obtain ⟨j2, ej2, h⟩ := sv_ob h
    refine sv_iast hC 16 (f := σ.2 36) rfl rfl (j := j2) ej2 (Xq := MW (sg_dA Γ) ho a (ms_a σ 36 j2 0)) rfl dX6_goDay_13 ?_
    refine sv_iinc hC (v := x2 + 1) dX6_goDay_14 2 rfl rfl (by decide) (lvq := [(2, .int (x2 + 1)), (0, .ref ho), (1, .int x1)]) rfl ?_
    refine sv_goto hC (tgt := 2) dX6_goDay_17 (by decide) ?_
    refine sv_loc [1, 2, 0] (lvq := [(0, .ref ho), (1, .int x1), (2, .int (x2 + 1))]) rfl ?_
    exact hk_2 x1 (x2 + 1) (ms_a σ 36 j2 0) h
set_option maxHeartbeats 2000000 in
theorem wk_md_goDay_2 {Γ : sv_G} (ho : Nat) (a : Nat → Nat) (hC : sv_C Γ cX6_goDay 5 RX6 none rm_X6_goDay) {r0 : MSt} (hQ : sv_RQ Γ (sv_pV (MW (sg_dA Γ) ho a r0)) 0 0)  : ∀ (n : Nat) (x1 : Int32) (x2 : Int32) (σ : MSt)  (h : md_goDay_2 n x1 x2 σ = some r0), sv_V Γ (MW (sg_dA Γ) ho a σ) 0 0 2 [(0, .ref ho), (1, .int x1), (2, .int x2)] [] := by
  intro n
  induction n with
  | zero => intro x1 x2 σ h; cases h
  | succ n ih => intro x1 x2 σ h; exact wk_md_goDay_2b ho a hC hQ (md_goDay_2 n) ih x1 x2 σ h
set_option maxHeartbeats 2000000 in
theorem wk_md_goDay {Γ : sv_G} (ho : Nat) (a : Nat → Nat) (hC : sv_C Γ cX6_goDay 5 RX6 none rm_X6_goDay) {r0 : MSt} (hQ : sv_RQ Γ (sv_pV (MW (sg_dA Γ) ho a r0)) 0 0) (x1 : Int32) (σ : MSt) (h : md_goDay x1 σ = some r0) : sv_V Γ (MW (sg_dA Γ) ho a σ) 0 0 0 [(0, .ref ho), (1, .int x1)] [] := by
  unfold md_goDay at h
  refine sv_iconst hC (v := 0) dX6_goDay_0 (by decide) ?_
  refine sv_istore_n hC dX6_goDay_1 rfl (by decide) (lvq := [(2, .int 0), (0, .ref ho), (1, .int x1)]) rfl ?_
  refine sv_loc [1, 2, 0] (lvq := [(0, .ref ho), (1, .int x1), (2, .int 0)]) rfl ?_
  exact wk_md_goDay_2 ho a hC hQ sv_FU x1 0 σ h
set_option maxHeartbeats 2000000 in
theorem met_md_goDay {l : Launch} {s0 : State} {D : va_G} {dA : Nat → ClassId} (hF : sv_F s0 D dA) (ho : Nat) (a : Nat → Nat) (x1 : Int32) (σ : MSt) {r0 : MSt} (h : md_goDay x1 σ = some r0) : sv_M l s0 D yX6_goDay cX6_goDay 5 none rm_X6_goDay [.ref ho, .int x1] (MW dA ho a σ) (sv_pV (MW dA ho a r0)) :=
  sv_met hF (by decide) (Nat.le_of_ble_eq_true rfl) (fun Γ hC hQ hmn e1 e2 e3 e4 => by
    subst e1 e2 e3 e4
    exact wk_md_goDay ho a hC hQ x1 σ h)
set_option maxHeartbeats 2000000 in
theorem wk_md_goTo_6b {Γ : sv_G} (ho : Nat) (a : Nat → Nat) (hC : sv_C Γ cX6_goTo 3 RX6 none rm_X6_goTo) {r0 : MSt} (hQ : sv_RQ Γ (sv_pV (MW (sg_dA Γ) ho a r0)) 0 0)  (rk_6 : Int32 → Int32 → MSt → Option MSt) (hk_6 : ∀ (x1 : Int32) (x2 : Int32) (σ : MSt), rk_6 x1 x2 σ = some r0 → sv_V Γ (MW (sg_dA Γ) ho a σ) 0 0 6 [(0, .ref ho), (1, .int x1), (2, .int x2)] []) (x1 : Int32) (x2 : Int32) (σ : MSt)  (h : md_goTo_6b rk_6 x1 x2 σ = some r0) : sv_V Γ (MW (sg_dA Γ) ho a σ) 0 0 6 [(0, .ref ho), (1, .int x1), (2, .int x2)] [] := by
  unfold md_goTo_6b at h
  refine sv_iload_n hC dX6_goTo_6 2 rfl rfl ?_
  refine sv_iload_n hC dX6_goTo_7 1 rfl rfl ?_
  refine sv_icmp_gt hC (tgt := 22) dX6_goTo_8 (by decide) (fun c2 => ?_) (fun c2 => ?_)
  · have h := sv_it c2 h
    exact sv_vret hC hQ dX6_goTo_22 (by have e := Option.some.inj h; subst e; exact ⟨rfl, rfl⟩)
  · have h := sv_if c2 h
    refine sv_aload_n hC dX6_goTo_11 0 rfl rfl ?_
    refine sv_iload_n hC dX6_goTo_12 2 rfl rfl ?_
    obtain ⟨s3, es3, h⟩ := sv_ob h
    refine sv_wVv (nn := 1) hC (met_md_goDay hC.F ho a x2 σ es3) 0 0 rfl rfl rfl (lw_V q1292 q1294 qs37 q62 q1295) (by decide +kernel) ⟨by decide, by decide⟩ ⟨rfl, rfl⟩ rfl rfl (Nat.le_of_ble_eq_true rfl) ⟨Nat.le_refl 0, Nat.le_refl 0⟩ dX6_goTo_13 ?_
    refine sv_iinc hC (v := x2 + 1) dX6_goTo_16 2 rfl rfl (by decide) (lvq := [(2, .int (x2 + 1)), (0, .ref ho), (1, .int x1)]) rfl ?_
    refine sv_goto hC (tgt := 6) dX6_goTo_19 (by decide) ?_
    refine sv_loc [1, 2, 0] (lvq := [(0, .ref ho), (1, .int x1), (2, .int (x2 + 1))]) rfl ?_
    exact hk_6 x1 (x2 + 1) s3 h
set_option maxHeartbeats 2000000 in
theorem wk_md_goTo_6 {Γ : sv_G} (ho : Nat) (a : Nat → Nat) (hC : sv_C Γ cX6_goTo 3 RX6 none rm_X6_goTo) {r0 : MSt} (hQ : sv_RQ Γ (sv_pV (MW (sg_dA Γ) ho a r0)) 0 0)  : ∀ (n : Nat) (x1 : Int32) (x2 : Int32) (σ : MSt)  (h : md_goTo_6 n x1 x2 σ = some r0), sv_V Γ (MW (sg_dA Γ) ho a σ) 0 0 6 [(0, .ref ho), (1, .int x1), (2, .int x2)] [] := by
  intro n
  induction n with
  | zero => intro x1 x2 σ h; cases h
  | succ n ih => intro x1 x2 σ h; exact wk_md_goTo_6b ho a hC hQ (md_goTo_6 n) ih x1 x2 σ h
set_option maxHeartbeats 2000000 in
theorem wk_md_goTo {Γ : sv_G} (ho : Nat) (a : Nat → Nat) (hC : sv_C Γ cX6_goTo 3 RX6 none rm_X6_goTo) {r0 : MSt} (hQ : sv_RQ Γ (sv_pV (MW (sg_dA Γ) ho a r0)) 0 0) (x1 : Int32) (σ : MSt) (h : md_goTo x1 σ = some r0) : sv_V Γ (MW (sg_dA Γ) ho a σ) 0 0 0 [(0, .ref ho), (1, .int x1)] [] := by
  unfold md_goTo at h
  refine sv_aload_n hC dX6_goTo_0 0 rfl rfl ?_
  obtain ⟨s1, es1, h⟩ := sv_ob h
  refine sv_wVv (nn := 0) hC (met_md_begin hC.F ho a σ es1) 0 0 rfl rfl rfl (lw_V q1288 q1290 qs36 q62 q1291) (by decide +kernel) ⟨by decide, by decide⟩ ⟨rfl, rfl⟩ rfl rfl (Nat.le_of_ble_eq_true rfl) ⟨Nat.le_refl 0, Nat.le_refl 0⟩ dX6_goTo_1 ?_
  refine sv_iconst hC (v := 0) dX6_goTo_4 (by decide) ?_
  refine sv_istore_n hC dX6_goTo_5 rfl (by decide) (lvq := [(2, .int 0), (0, .ref ho), (1, .int x1)]) rfl ?_
  refine sv_loc [1, 2, 0] (lvq := [(0, .ref ho), (1, .int x1), (2, .int 0)]) rfl ?_
  exact wk_md_goTo_6 ho a hC hQ sv_FU x1 0 s1 h
set_option maxHeartbeats 2000000 in
theorem met_md_goTo {l : Launch} {s0 : State} {D : va_G} {dA : Nat → ClassId} (hF : sv_F s0 D dA) (ho : Nat) (a : Nat → Nat) (x1 : Int32) (σ : MSt) {r0 : MSt} (h : md_goTo x1 σ = some r0) : sv_M l s0 D yX6_goTo cX6_goTo 3 none rm_X6_goTo [.ref ho, .int x1] (MW dA ho a σ) (sv_pV (MW dA ho a r0)) :=
  sv_met hF (by decide) (Nat.le_of_ble_eq_true rfl) (fun Γ hC hQ hmn e1 e2 e3 e4 => by
    subst e1 e2 e3 e4
    exact wk_md_goTo ho a hC hQ x1 σ h)
set_option maxHeartbeats 2000000 in
theorem wk_md_went {Γ : sv_G} (ho : Nat) (a : Nat → Nat) (hC : sv_C Γ cX6_went 3 RX6 (some .int) rm_X6_went) {r0 : Int32 × MSt} (hQ : sv_RQ Γ (sv_pI r0.1 (MW (sg_dA Γ) ho a r0.2)) 0 0) (x1 : Int32) (x2 : Int32) (σ : MSt) (h : md_went x1 x2 σ = some r0) : sv_V Γ (MW (sg_dA Γ) ho a σ) 0 0 0 [(0, .ref ho), (1, .int x1), (2, .int x2)] [] := by
  unfold md_went at h
  refine sv_aload_n hC dX6_went_0 0 rfl rfl ?_
  refine sv_iload_n hC dX6_went_1 1 rfl rfl ?_
  obtain ⟨r1, er1, h⟩ := sv_ob h
  refine sv_wVi (nn := 1) hC (met_md_isDay hC.F ho a σ x1 er1) 0 0 rfl rfl rfl (lw_V q1276 q1278 qs33 q62 q1279) (by decide +kernel) ⟨by decide, by decide⟩ ⟨rfl, rfl⟩ rfl rfl (Nat.le_of_ble_eq_true rfl) ⟨Nat.le_refl 0, Nat.le_refl 0⟩ dX6_went_2 ?_
  refine sv_if_eq hC (tgt := 16) dX6_went_5 (by decide) (fun c2 => ?_) (fun c2 => ?_)
  · have h := sv_it c2 h
    refine sv_bipush hC (v := (-2)) dX6_went_16 (by decide) ?_
    exact sv_iret hC hQ dX6_went_18 (by have e := Option.some.inj h; subst e; exact ⟨rfl, rfl⟩)
  · have h := sv_if c2 h
    refine sv_aload_n hC dX6_went_8 0 rfl rfl ?_
    refine sv_iload_n hC dX6_went_9 2 rfl rfl ?_
    obtain ⟨r3, er3, h⟩ := sv_ob h
    refine sv_wVi (nn := 1) hC (met_md_isFlock hC.F ho a σ x2 er3) 0 0 rfl rfl rfl (lw_V q1250 q1252 qs31 q62 q1253) (by decide +kernel) ⟨by decide, by decide⟩ ⟨rfl, rfl⟩ rfl rfl (Nat.le_of_ble_eq_true rfl) ⟨Nat.le_refl 0, Nat.le_refl 0⟩ dX6_went_10 ?_
    refine sv_if_ne hC (tgt := 19) dX6_went_13 (by decide) (fun c4 => ?_) (fun c4 => ?_)
    · have h := sv_if c4 h
      refine sv_aload_n hC dX6_went_19 0 rfl rfl ?_
      obtain ⟨s5, es5, h⟩ := sv_ob h
      refine sv_wVv (nn := 0) hC (met_md_asPlanned hC.F ho a σ es5) 0 0 rfl rfl rfl (lw_V q1280 q1282 qs34 q62 q1283) (by decide +kernel) ⟨by decide, by decide⟩ ⟨rfl, rfl⟩ rfl rfl (Nat.le_of_ble_eq_true rfl) ⟨Nat.le_refl 0, Nat.le_refl 0⟩ dX6_went_20 ?_
      refine sv_aload_n hC dX6_went_23 0 rfl rfl ?_
      refine sv_iload_n hC dX6_went_24 1 rfl rfl ?_
      obtain ⟨s6, es6, h⟩ := sv_ob h
      refine sv_wVv (nn := 1) hC (met_md_goTo hC.F ho a x1 s5 es6) 0 0 rfl rfl rfl (lw_V q1284 q1286 qs35 q62 q1287) (by decide +kernel) ⟨by decide, by decide⟩ ⟨rfl, rfl⟩ rfl rfl (Nat.le_of_ble_eq_true rfl) ⟨Nat.le_refl 0, Nat.le_refl 0⟩ dX6_went_25 ?_
      refine sv_aload_n hC dX6_went_28 0 rfl rfl ?_
      refine sv_get hC in_X6 0 rfl rfl 35 (by decide) q1091 rfl (v := .ref (a 35)) rfl dX6_went_29 ?_
      refine sv_iload_n hC dX6_went_32 2 rfl rfl ?_
      obtain ⟨j7, ej7, h⟩ := sv_ob h
      refine sv_iald hC 15 (f := s6.2 35) rfl rfl (j := j7) ej7 dX6_went_33 ?_
      exact sv_iret hC hQ dX6_went_34 (by have e := Option.some.inj h; subst e; exact ⟨rfl, rfl⟩)
    · have h := sv_it c4 h
      refine sv_bipush hC (v := (-2)) dX6_went_16 (by decide) ?_
      exact sv_iret hC hQ dX6_went_18 (by have e := Option.some.inj h; subst e; exact ⟨rfl, rfl⟩)
set_option maxHeartbeats 2000000 in
theorem met_md_went {l : Launch} {s0 : State} {D : va_G} {dA : Nat → ClassId} (hF : sv_F s0 D dA) (ho : Nat) (a : Nat → Nat) (x1 : Int32) (x2 : Int32) (σ : MSt) {r0 : Int32 × MSt} (h : md_went x1 x2 σ = some r0) : sv_M l s0 D yX6_went cX6_went 3 (some .int) rm_X6_went [.ref ho, .int x1, .int x2] (MW dA ho a σ) (sv_pI r0.1 (MW dA ho a r0.2)) :=
  sv_met hF (by decide) (Nat.le_of_ble_eq_true rfl) (fun Γ hC hQ hmn e1 e2 e3 e4 => by
    subst e1 e2 e3 e4
    exact wk_md_went ho a hC hQ x1 x2 σ h)
set_option maxHeartbeats 2000000 in
theorem wk_md_eatenAll {Γ : sv_G} (ho : Nat) (a : Nat → Nat) (σ : MSt) (hC : sv_C Γ cX6_eatenAll 1 RX6 (some .int) rm_X6_eatenAll) {r0 : Int32} (hQ : sv_RQ Γ (sv_pI r0 (MW (sg_dA Γ) ho a σ)) 0 0)  (h : md_eatenAll σ  = some r0) : sv_V Γ (MW (sg_dA Γ) ho a σ) 0 0 0 [(0, .ref ho)] [] := by
  unfold md_eatenAll at h
  refine sv_aload_n hC dX6_eatenAll_0 0 rfl rfl ?_
  refine sv_get hC in_X6 0 rfl rfl 36 (by decide) q1092 rfl (v := .ref (a 36)) rfl dX6_eatenAll_1 ?_
  refine sv_iconst hC (v := 0) dX6_eatenAll_4 (by decide) ?_
  refine sv_iald hC 16 (f := σ.2 36) rfl rfl (j := 0) (by decide) dX6_eatenAll_5 ?_
  refine sv_aload_n hC dX6_eatenAll_6 0 rfl rfl ?_
  refine sv_get hC in_X6 0 rfl rfl 36 (by decide) q1092 rfl (v := .ref (a 36)) rfl dX6_eatenAll_7 ?_
  refine sv_iconst hC (v := 1) dX6_eatenAll_10 (by decide) ?_
  refine sv_iald hC 16 (f := σ.2 36) rfl rfl (j := 1) (by decide) dX6_eatenAll_11 ?_
  refine sv_iadd hC dX6_eatenAll_12 ?_
  refine sv_aload_n hC dX6_eatenAll_13 0 rfl rfl ?_
  refine sv_get hC in_X6 0 rfl rfl 36 (by decide) q1092 rfl (v := .ref (a 36)) rfl dX6_eatenAll_14 ?_
  refine sv_iconst hC (v := 2) dX6_eatenAll_17 (by decide) ?_
  refine sv_iald hC 16 (f := σ.2 36) rfl rfl (j := 2) (by decide) dX6_eatenAll_18 ?_
  refine sv_iadd hC dX6_eatenAll_19 ?_
  refine sv_aload_n hC dX6_eatenAll_20 0 rfl rfl ?_
  refine sv_get hC in_X6 0 rfl rfl 36 (by decide) q1092 rfl (v := .ref (a 36)) rfl dX6_eatenAll_21 ?_
  refine sv_iconst hC (v := 3) dX6_eatenAll_24 (by decide) ?_
  refine sv_iald hC 16 (f := σ.2 36) rfl rfl (j := 3) (by decide) dX6_eatenAll_25 ?_
  refine sv_iadd hC dX6_eatenAll_26 ?_
  exact sv_iret hC hQ dX6_eatenAll_27 (by have e := Option.some.inj h; subst e; exact ⟨rfl, rfl⟩)
set_option maxHeartbeats 2000000 in
theorem met_md_eatenAll {l : Launch} {s0 : State} {D : va_G} {dA : Nat → ClassId} (hF : sv_F s0 D dA) (ho : Nat) (a : Nat → Nat) (σ : MSt)  {r0 : Int32} (h : md_eatenAll σ  = some r0) : sv_M l s0 D yX6_eatenAll cX6_eatenAll 1 (some .int) rm_X6_eatenAll [.ref ho] (MW dA ho a σ) (sv_pI r0 (MW dA ho a σ)) :=
  sv_met hF (by decide) (Nat.le_of_ble_eq_true rfl) (fun Γ hC hQ hmn e1 e2 e3 e4 => by
    subst e1 e2 e3 e4
    exact wk_md_eatenAll ho a σ hC hQ  h)
set_option maxHeartbeats 2000000 in
theorem wk_md_eaten_24 {Γ : sv_G} (ho : Nat) (a : Nat → Nat) (hC : sv_C Γ cX6_eaten 3 RX6 (some .int) rm_X6_eaten) {r0 : Int32 × MSt} (hQ : sv_RQ Γ (sv_pI r0.1 (MW (sg_dA Γ) ho a r0.2)) 0 0)  (x1 : Int32) (x2 : Int32) (σ : MSt)  (h : md_eaten_24 x1 x2 σ = some r0) : sv_V Γ (MW (sg_dA Γ) ho a σ) 0 0 24 [(0, .ref ho), (1, .int x1), (2, .int x2)] [] := by
  unfold md_eaten_24 at h
  refine sv_aload_n hC dX6_eaten_24 0 rfl rfl ?_
  obtain ⟨s6, es6, h⟩ := sv_ob h
  refine sv_wVv (nn := 0) hC (met_md_asPlanned hC.F ho a σ es6) 0 0 rfl rfl rfl (lw_V q1280 q1282 qs34 q62 q1283) (by decide +kernel) ⟨by decide, by decide⟩ ⟨rfl, rfl⟩ rfl rfl (Nat.le_of_ble_eq_true rfl) ⟨Nat.le_refl 0, Nat.le_refl 0⟩ dX6_eaten_25 ?_
  refine sv_aload_n hC dX6_eaten_28 0 rfl rfl ?_
  refine sv_iload_n hC dX6_eaten_29 1 rfl rfl ?_
  obtain ⟨s7, es7, h⟩ := sv_ob h
  refine sv_wVv (nn := 1) hC (met_md_goTo hC.F ho a x1 s6 es7) 0 0 rfl rfl rfl (lw_V q1284 q1286 qs35 q62 q1287) (by decide +kernel) ⟨by decide, by decide⟩ ⟨rfl, rfl⟩ rfl rfl (Nat.le_of_ble_eq_true rfl) ⟨Nat.le_refl 0, Nat.le_refl 0⟩ dX6_eaten_30 ?_
  refine sv_iload_n hC dX6_eaten_33 2 rfl rfl ?_
  refine sv_iconst hC (v := (-1)) dX6_eaten_34 (by decide) ?_
  refine sv_icmp_ne hC (tgt := 45) dX6_eaten_35 (by decide) (fun c8 => ?_) (fun c8 => ?_)
  · have h := sv_if c8 h
    refine sv_aload_n hC dX6_eaten_45 0 rfl rfl ?_
    refine sv_get hC in_X6 0 rfl rfl 36 (by decide) q1092 rfl (v := .ref (a 36)) rfl dX6_eaten_46 ?_
    refine sv_iload_n hC dX6_eaten_49 2 rfl rfl ?_
    obtain ⟨j9, ej9, h⟩ := sv_ob h
    refine sv_iald hC 16 (f := s7.2 36) rfl rfl (j := j9) ej9 dX6_eaten_50 ?_
    exact sv_iret hC hQ dX6_eaten_51 (by have e := Option.some.inj h; subst e; exact ⟨rfl, rfl⟩)
  · have h := sv_it c8 h
    refine sv_aload_n hC dX6_eaten_38 0 rfl rfl ?_
    obtain ⟨r10, er10, h⟩ := sv_ob h
    refine sv_wVi (nn := 0) hC (met_md_eatenAll hC.F ho a s7 er10) 0 0 rfl rfl rfl (lw_V q1316 q1318 qs42 q62 q1319) (by decide +kernel) ⟨by decide, by decide⟩ ⟨rfl, rfl⟩ rfl rfl (Nat.le_of_ble_eq_true rfl) ⟨Nat.le_refl 0, Nat.le_refl 0⟩ dX6_eaten_39 ?_
    refine sv_goto hC (tgt := 51) dX6_eaten_42 (by decide) ?_
    exact sv_iret hC hQ dX6_eaten_51 (by have e := Option.some.inj h; subst e; exact ⟨rfl, rfl⟩)
set_option maxHeartbeats 2000000 in
theorem wk_md_eaten {Γ : sv_G} (ho : Nat) (a : Nat → Nat) (hC : sv_C Γ cX6_eaten 3 RX6 (some .int) rm_X6_eaten) {r0 : Int32 × MSt} (hQ : sv_RQ Γ (sv_pI r0.1 (MW (sg_dA Γ) ho a r0.2)) 0 0) (x1 : Int32) (x2 : Int32) (σ : MSt) (h : md_eaten x1 x2 σ = some r0) : sv_V Γ (MW (sg_dA Γ) ho a σ) 0 0 0 [(0, .ref ho), (1, .int x1), (2, .int x2)] [] := by
  unfold md_eaten at h
  refine sv_aload_n hC dX6_eaten_0 0 rfl rfl ?_
  refine sv_iload_n hC dX6_eaten_1 1 rfl rfl ?_
  obtain ⟨r1, er1, h⟩ := sv_ob h
  refine sv_wVi (nn := 1) hC (met_md_isDay hC.F ho a σ x1 er1) 0 0 rfl rfl rfl (lw_V q1276 q1278 qs33 q62 q1279) (by decide +kernel) ⟨by decide, by decide⟩ ⟨rfl, rfl⟩ rfl rfl (Nat.le_of_ble_eq_true rfl) ⟨Nat.le_refl 0, Nat.le_refl 0⟩ dX6_eaten_2 ?_
  refine sv_if_eq hC (tgt := 21) dX6_eaten_5 (by decide) (fun c2 => ?_) (fun c2 => ?_)
  · have h := sv_it c2 h
    refine sv_bipush hC (v := (-2)) dX6_eaten_21 (by decide) ?_
    exact sv_iret hC hQ dX6_eaten_23 (by have e := Option.some.inj h; subst e; exact ⟨rfl, rfl⟩)
  · have h := sv_if c2 h
    refine sv_iload_n hC dX6_eaten_8 2 rfl rfl ?_
    refine sv_iconst hC (v := (-1)) dX6_eaten_9 (by decide) ?_
    refine sv_icmp_eq hC (tgt := 24) dX6_eaten_10 (by decide) (fun c3 => ?_) (fun c3 => ?_)
    · have h := sv_it c3 h
      exact wk_md_eaten_24 ho a hC hQ x1 x2 σ h
    · have h := sv_if c3 h
      refine sv_aload_n hC dX6_eaten_13 0 rfl rfl ?_
      refine sv_iload_n hC dX6_eaten_14 2 rfl rfl ?_
      obtain ⟨r4, er4, h⟩ := sv_ob h
      refine sv_wVi (nn := 1) hC (met_md_isField hC.F ho a σ x2 er4) 0 0 rfl rfl rfl (lw_V q1238 q1240 qs30 q62 q1241) (by decide +kernel) ⟨by decide, by decide⟩ ⟨rfl, rfl⟩ rfl rfl (Nat.le_of_ble_eq_true rfl) ⟨Nat.le_refl 0, Nat.le_refl 0⟩ dX6_eaten_15 ?_
      refine sv_if_ne hC (tgt := 24) dX6_eaten_18 (by decide) (fun c5 => ?_) (fun c5 => ?_)
      · have h := sv_if c5 h
        exact wk_md_eaten_24 ho a hC hQ x1 x2 σ h
      · have h := sv_it c5 h
        refine sv_bipush hC (v := (-2)) dX6_eaten_21 (by decide) ?_
        exact sv_iret hC hQ dX6_eaten_23 (by have e := Option.some.inj h; subst e; exact ⟨rfl, rfl⟩)
set_option maxHeartbeats 2000000 in
theorem met_md_eaten {l : Launch} {s0 : State} {D : va_G} {dA : Nat → ClassId} (hF : sv_F s0 D dA) (ho : Nat) (a : Nat → Nat) (x1 : Int32) (x2 : Int32) (σ : MSt) {r0 : Int32 × MSt} (h : md_eaten x1 x2 σ = some r0) : sv_M l s0 D yX6_eaten cX6_eaten 3 (some .int) rm_X6_eaten [.ref ho, .int x1, .int x2] (MW dA ho a σ) (sv_pI r0.1 (MW dA ho a r0.2)) :=
  sv_met hF (by decide) (Nat.le_of_ble_eq_true rfl) (fun Γ hC hQ hmn e1 e2 e3 e4 => by
    subst e1 e2 e3 e4
    exact wk_md_eaten ho a hC hQ x1 x2 σ h)
set_option maxHeartbeats 2000000 in
theorem wk_md_left {Γ : sv_G} (ho : Nat) (a : Nat → Nat) (hC : sv_C Γ cX6_left 3 RX6 (some .int) rm_X6_left) {r0 : Int32 × MSt} (hQ : sv_RQ Γ (sv_pI r0.1 (MW (sg_dA Γ) ho a r0.2)) 0 0) (x1 : Int32) (x2 : Int32) (σ : MSt) (h : md_left x1 x2 σ = some r0) : sv_V Γ (MW (sg_dA Γ) ho a σ) 0 0 0 [(0, .ref ho), (1, .int x1), (2, .int x2)] [] := by
  unfold md_left at h
  refine sv_aload_n hC dX6_left_0 0 rfl rfl ?_
  refine sv_iload_n hC dX6_left_1 1 rfl rfl ?_
  obtain ⟨r1, er1, h⟩ := sv_ob h
  refine sv_wVi (nn := 1) hC (met_md_isDay hC.F ho a σ x1 er1) 0 0 rfl rfl rfl (lw_V q1276 q1278 qs33 q62 q1279) (by decide +kernel) ⟨by decide, by decide⟩ ⟨rfl, rfl⟩ rfl rfl (Nat.le_of_ble_eq_true rfl) ⟨Nat.le_refl 0, Nat.le_refl 0⟩ dX6_left_2 ?_
  refine sv_if_eq hC (tgt := 16) dX6_left_5 (by decide) (fun c2 => ?_) (fun c2 => ?_)
  · have h := sv_it c2 h
    refine sv_bipush hC (v := (-2)) dX6_left_16 (by decide) ?_
    exact sv_iret hC hQ dX6_left_18 (by have e := Option.some.inj h; subst e; exact ⟨rfl, rfl⟩)
  · have h := sv_if c2 h
    refine sv_aload_n hC dX6_left_8 0 rfl rfl ?_
    refine sv_iload_n hC dX6_left_9 2 rfl rfl ?_
    obtain ⟨r3, er3, h⟩ := sv_ob h
    refine sv_wVi (nn := 1) hC (met_md_isField hC.F ho a σ x2 er3) 0 0 rfl rfl rfl (lw_V q1238 q1240 qs30 q62 q1241) (by decide +kernel) ⟨by decide, by decide⟩ ⟨rfl, rfl⟩ rfl rfl (Nat.le_of_ble_eq_true rfl) ⟨Nat.le_refl 0, Nat.le_refl 0⟩ dX6_left_10 ?_
    refine sv_if_ne hC (tgt := 19) dX6_left_13 (by decide) (fun c4 => ?_) (fun c4 => ?_)
    · have h := sv_if c4 h
      refine sv_aload_n hC dX6_left_19 0 rfl rfl ?_
      obtain ⟨s5, es5, h⟩ := sv_ob h
      refine sv_wVv (nn := 0) hC (met_md_asPlanned hC.F ho a σ es5) 0 0 rfl rfl rfl (lw_V q1280 q1282 qs34 q62 q1283) (by decide +kernel) ⟨by decide, by decide⟩ ⟨rfl, rfl⟩ rfl rfl (Nat.le_of_ble_eq_true rfl) ⟨Nat.le_refl 0, Nat.le_refl 0⟩ dX6_left_20 ?_
      refine sv_aload_n hC dX6_left_23 0 rfl rfl ?_
      refine sv_iload_n hC dX6_left_24 1 rfl rfl ?_
      obtain ⟨s6, es6, h⟩ := sv_ob h
      refine sv_wVv (nn := 1) hC (met_md_goTo hC.F ho a x1 s5 es6) 0 0 rfl rfl rfl (lw_V q1284 q1286 qs35 q62 q1287) (by decide +kernel) ⟨by decide, by decide⟩ ⟨rfl, rfl⟩ rfl rfl (Nat.le_of_ble_eq_true rfl) ⟨Nat.le_refl 0, Nat.le_refl 0⟩ dX6_left_25 ?_
      refine sv_aload_n hC dX6_left_28 0 rfl rfl ?_
      refine sv_get hC in_X6 0 rfl rfl 33 (by decide) q1089 rfl (v := .ref (a 33)) rfl dX6_left_29 ?_
      refine sv_iload_n hC dX6_left_32 2 rfl rfl ?_
      obtain ⟨j7, ej7, h⟩ := sv_ob h
      refine sv_iald hC 13 (f := s6.2 33) rfl rfl (j := j7) ej7 dX6_left_33 ?_
      exact sv_iret hC hQ dX6_left_34 (by have e := Option.some.inj h; subst e; exact ⟨rfl, rfl⟩)
    · have h := sv_it c4 h
      refine sv_bipush hC (v := (-2)) dX6_left_16 (by decide) ?_
      exact sv_iret hC hQ dX6_left_18 (by have e := Option.some.inj h; subst e; exact ⟨rfl, rfl⟩)
set_option maxHeartbeats 2000000 in
theorem met_md_left {l : Launch} {s0 : State} {D : va_G} {dA : Nat → ClassId} (hF : sv_F s0 D dA) (ho : Nat) (a : Nat → Nat) (x1 : Int32) (x2 : Int32) (σ : MSt) {r0 : Int32 × MSt} (h : md_left x1 x2 σ = some r0) : sv_M l s0 D yX6_left cX6_left 3 (some .int) rm_X6_left [.ref ho, .int x1, .int x2] (MW dA ho a σ) (sv_pI r0.1 (MW dA ho a r0.2)) :=
  sv_met hF (by decide) (Nat.le_of_ble_eq_true rfl) (fun Γ hC hQ hmn e1 e2 e3 e4 => by
    subst e1 e2 e3 e4
    exact wk_md_left ho a hC hQ x1 x2 σ h)
set_option maxHeartbeats 2000000 in
theorem wk_md_fear_13 {Γ : sv_G} (ho : Nat) (a : Nat → Nat) (hC : sv_C Γ cX6_fear 4 RX6 (some .int) rm_X6_fear) {r0 : Int32 × MSt} (hQ : sv_RQ Γ (sv_pI r0.1 (MW (sg_dA Γ) ho a r0.2)) 0 0)  (x1 : Int32) (x2 : Int32) (x3 : Int32) (σ : MSt)  (h : md_fear_13 x1 x2 x3 σ = some r0) : sv_V Γ (MW (sg_dA Γ) ho a σ) 0 0 13 [(0, .ref ho), (1, .int x1), (2, .int x2), (3, .int x3)] [] := by
  unfold md_fear_13 at h
  refine sv_aload_n hC dX6_fear_13 0 rfl rfl ?_
  refine sv_iload_n hC dX6_fear_14 2 rfl rfl ?_
  obtain ⟨r4, er4, h⟩ := sv_ob h
  refine sv_wVi (nn := 1) hC (met_md_isFlock hC.F ho a σ x2 er4) 0 0 rfl rfl rfl (lw_V q1250 q1252 qs31 q62 q1253) (by decide +kernel) ⟨by decide, by decide⟩ ⟨rfl, rfl⟩ rfl rfl (Nat.le_of_ble_eq_true rfl) ⟨Nat.le_refl 0, Nat.le_refl 0⟩ dX6_fear_15 ?_
  refine sv_if_eq hC (tgt := 29) dX6_fear_18 (by decide) (fun c5 => ?_) (fun c5 => ?_)
  · have h := sv_it c5 h
    refine sv_bipush hC (v := (-2)) dX6_fear_29 (by decide) ?_
    exact sv_iret hC hQ dX6_fear_31 (by have e := Option.some.inj h; subst e; exact ⟨rfl, rfl⟩)
  · have h := sv_if c5 h
    refine sv_aload_n hC dX6_fear_21 0 rfl rfl ?_
    refine sv_iload_n hC dX6_fear_22 3 rfl rfl ?_
    obtain ⟨r6, er6, h⟩ := sv_ob h
    refine sv_wVi (nn := 1) hC (met_md_isCoat hC.F ho a σ x3 er6) 0 0 rfl rfl rfl (lw_V q1258 q1260 qs32 q62 q1261) (by decide +kernel) ⟨by decide, by decide⟩ ⟨rfl, rfl⟩ rfl rfl (Nat.le_of_ble_eq_true rfl) ⟨Nat.le_refl 0, Nat.le_refl 0⟩ dX6_fear_23 ?_
    refine sv_if_ne hC (tgt := 32) dX6_fear_26 (by decide) (fun c7 => ?_) (fun c7 => ?_)
    · have h := sv_if c7 h
      refine sv_aload_n hC dX6_fear_32 0 rfl rfl ?_
      obtain ⟨s8, es8, h⟩ := sv_ob h
      refine sv_wVv (nn := 0) hC (met_md_asPlanned hC.F ho a σ es8) 0 0 rfl rfl rfl (lw_V q1280 q1282 qs34 q62 q1283) (by decide +kernel) ⟨by decide, by decide⟩ ⟨rfl, rfl⟩ rfl rfl (Nat.le_of_ble_eq_true rfl) ⟨Nat.le_refl 0, Nat.le_refl 0⟩ dX6_fear_33 ?_
      refine sv_aload_n hC dX6_fear_36 0 rfl rfl ?_
      refine sv_iload_n hC dX6_fear_37 1 rfl rfl ?_
      obtain ⟨s9, es9, h⟩ := sv_ob h
      refine sv_wVv (nn := 1) hC (met_md_goTo hC.F ho a x1 s8 es9) 0 0 rfl rfl rfl (lw_V q1284 q1286 qs35 q62 q1287) (by decide +kernel) ⟨by decide, by decide⟩ ⟨rfl, rfl⟩ rfl rfl (Nat.le_of_ble_eq_true rfl) ⟨Nat.le_refl 0, Nat.le_refl 0⟩ dX6_fear_38 ?_
      refine sv_aload_n hC dX6_fear_41 0 rfl rfl ?_
      refine sv_get hC in_X6 0 rfl rfl 34 (by decide) q1090 rfl (v := .ref (a 34)) rfl dX6_fear_42 ?_
      refine sv_iconst hC (v := 4) dX6_fear_45 (by decide) ?_
      refine sv_iload_n hC dX6_fear_46 2 rfl rfl ?_
      refine sv_imul hC dX6_fear_47 ?_
      refine sv_iload_n hC dX6_fear_48 3 rfl rfl ?_
      refine sv_iadd hC dX6_fear_49 ?_
      obtain ⟨j10, ej10, h⟩ := sv_ob h
      refine sv_iald hC 14 (f := s9.2 34) rfl rfl (j := j10) ej10 dX6_fear_50 ?_
      exact sv_iret hC hQ dX6_fear_51 (by have e := Option.some.inj h; subst e; exact ⟨rfl, rfl⟩)
    · have h := sv_it c7 h
      refine sv_bipush hC (v := (-2)) dX6_fear_29 (by decide) ?_
      exact sv_iret hC hQ dX6_fear_31 (by have e := Option.some.inj h; subst e; exact ⟨rfl, rfl⟩)
set_option maxHeartbeats 2000000 in
theorem wk_md_fear {Γ : sv_G} (ho : Nat) (a : Nat → Nat) (hC : sv_C Γ cX6_fear 4 RX6 (some .int) rm_X6_fear) {r0 : Int32 × MSt} (hQ : sv_RQ Γ (sv_pI r0.1 (MW (sg_dA Γ) ho a r0.2)) 0 0) (x1 : Int32) (x2 : Int32) (x3 : Int32) (σ : MSt) (h : md_fear x1 x2 x3 σ = some r0) : sv_V Γ (MW (sg_dA Γ) ho a σ) 0 0 0 [(0, .ref ho), (1, .int x1), (2, .int x2), (3, .int x3)] [] := by
  unfold md_fear at h
  refine sv_iload_n hC dX6_fear_0 1 rfl rfl ?_
  refine sv_iconst hC (v := (-1)) dX6_fear_1 (by decide) ?_
  refine sv_icmp_eq hC (tgt := 13) dX6_fear_2 (by decide) (fun c1 => ?_) (fun c1 => ?_)
  · have h := sv_it c1 h
    exact wk_md_fear_13 ho a hC hQ x1 x2 x3 σ h
  · have h := sv_if c1 h
    refine sv_aload_n hC dX6_fear_5 0 rfl rfl ?_
    refine sv_iload_n hC dX6_fear_6 1 rfl rfl ?_
    obtain ⟨r2, er2, h⟩ := sv_ob h
    refine sv_wVi (nn := 1) hC (met_md_isDay hC.F ho a σ x1 er2) 0 0 rfl rfl rfl (lw_V q1276 q1278 qs33 q62 q1279) (by decide +kernel) ⟨by decide, by decide⟩ ⟨rfl, rfl⟩ rfl rfl (Nat.le_of_ble_eq_true rfl) ⟨Nat.le_refl 0, Nat.le_refl 0⟩ dX6_fear_7 ?_
    refine sv_if_eq hC (tgt := 29) dX6_fear_10 (by decide) (fun c3 => ?_) (fun c3 => ?_)
    · have h := sv_it c3 h
      refine sv_bipush hC (v := (-2)) dX6_fear_29 (by decide) ?_
      exact sv_iret hC hQ dX6_fear_31 (by have e := Option.some.inj h; subst e; exact ⟨rfl, rfl⟩)
    · have h := sv_if c3 h
      exact wk_md_fear_13 ho a hC hQ x1 x2 x3 σ h
set_option maxHeartbeats 2000000 in
theorem met_md_fear {l : Launch} {s0 : State} {D : va_G} {dA : Nat → ClassId} (hF : sv_F s0 D dA) (ho : Nat) (a : Nat → Nat) (x1 : Int32) (x2 : Int32) (x3 : Int32) (σ : MSt) {r0 : Int32 × MSt} (h : md_fear x1 x2 x3 σ = some r0) : sv_M l s0 D yX6_fear cX6_fear 4 (some .int) rm_X6_fear [.ref ho, .int x1, .int x2, .int x3] (MW dA ho a σ) (sv_pI r0.1 (MW dA ho a r0.2)) :=
  sv_met hF (by decide) (Nat.le_of_ble_eq_true rfl) (fun Γ hC hQ hmn e1 e2 e3 e4 => by
    subst e1 e2 e3 e4
    exact wk_md_fear ho a hC hQ x1 x2 x3 σ h)
set_option maxHeartbeats 2000000 in
theorem wk_md_lossOf_24b {Γ : sv_G} (ho : Nat) (a : Nat → Nat) (hC : sv_C Γ cX6_lossOf 5 RX6 (some .int) rm_X6_lossOf) {r0 : Int32 × MSt} (hQ : sv_RQ Γ (sv_pI r0.1 (MW (sg_dA Γ) ho a r0.2)) 0 0) (rk_8 : Int32 → Int32 → Int32 → MSt → Option (Int32 × MSt)) (hk_8 : ∀ (x1 : Int32) (x2 : Int32) (x3 : Int32) (σ : MSt), rk_8 x1 x2 x3 σ = some r0 → sv_V Γ (MW (sg_dA Γ) ho a σ) 0 0 8 [(0, .ref ho), (1, .int x1), (2, .int x2), (3, .int x3)] []) (rk_24 : Int32 → Int32 → Int32 → Int32 → MSt → Option (Int32 × MSt)) (hk_24 : ∀ (x1 : Int32) (x2 : Int32) (x3 : Int32) (x4 : Int32) (σ : MSt), rk_24 x1 x2 x3 x4 σ = some r0 → sv_V Γ (MW (sg_dA Γ) ho a σ) 0 0 24 [(0, .ref ho), (1, .int x1), (2, .int x2), (3, .int x3), (4, .int x4)] []) (x1 : Int32) (x2 : Int32) (x3 : Int32) (x4 : Int32) (σ : MSt)  (h : md_lossOf_24b rk_8 rk_24 x1 x2 x3 x4 σ = some r0) : sv_V Γ (MW (sg_dA Γ) ho a σ) 0 0 24 [(0, .ref ho), (1, .int x1), (2, .int x2), (3, .int x3), (4, .int x4)] [] := by
  unfold md_lossOf_24b at h
  refine sv_iload hC dX6_lossOf_24 4 rfl ?_
  refine sv_iconst hC (v := 4) dX6_lossOf_26 (by decide) ?_
  refine sv_icmp_ge hC (tgt := 64) dX6_lossOf_27 (by decide) (fun c4 => ?_) (fun c4 => ?_)
  · have h := sv_it c4 h
    refine sv_iinc hC (v := x3 + 1) dX6_lossOf_64 3 rfl rfl (by decide) (lvq := [(3, .int (x3 + 1)), (0, .ref ho), (1, .int x1), (2, .int x2), (4, .int x4)]) rfl ?_
    refine sv_goto hC (tgt := 8) dX6_lossOf_67 (by decide) ?_
    refine sv_loc [1, 2, 3, 0] (lvq := [(0, .ref ho), (1, .int x1), (2, .int x2), (3, .int (x3 + 1))]) rfl ?_
    exact hk_8 x1 x2 (x3 + 1) σ h
  · have h := sv_if c4 h
    refine sv_iload_n hC dX6_lossOf_30 2 rfl rfl ?_
    refine sv_iload_n hC dX6_lossOf_31 1 rfl rfl ?_
    refine sv_aload_n hC dX6_lossOf_32 0 rfl rfl ?_
    refine sv_get hC in_X6 0 rfl rfl 7 (by decide) q1063 rfl (v := .ref (a 7)) rfl dX6_lossOf_33 ?_
    refine sv_iload hC dX6_lossOf_36 4 rfl ?_
    obtain ⟨j5, ej5, h⟩ := sv_ob h
    refine sv_iald hC 5 (f := σ.2 7) rfl rfl (j := j5) ej5 dX6_lossOf_38 ?_
    obtain ⟨r6, er6, h⟩ := sv_ob h
    refine sv_pSi (nn := 2) hC (met_md_has hC.F x1 (σ.2 7 j5) er6) (lw_S q1243 q1244 q62 q1245) (by decide +kernel) ⟨by decide, by decide⟩ ⟨rfl, rfl⟩ rfl rfl (Nat.le_of_ble_eq_true rfl) ⟨Nat.le_refl 0, Nat.le_refl 0⟩ dX6_lossOf_39 ?_
    refine sv_if_eq hC (tgt := 55) dX6_lossOf_42 (by decide) (fun c7 => ?_) (fun c7 => ?_)
    · have h := sv_it c7 h
      refine sv_iconst hC (v := 0) dX6_lossOf_55 (by decide) ?_
      refine sv_iadd hC dX6_lossOf_56 ?_
      refine sv_istore_n hC dX6_lossOf_57 rfl (by decide) (lvq := [(2, .int (x2 + 0)), (0, .ref ho), (1, .int x1), (3, .int x3), (4, .int x4)]) rfl ?_
      refine sv_iinc hC (v := x4 + 1) dX6_lossOf_58 4 rfl rfl (by decide) (lvq := [(4, .int (x4 + 1)), (2, .int (x2 + 0)), (0, .ref ho), (1, .int x1), (3, .int x3)]) rfl ?_
      refine sv_goto hC (tgt := 24) dX6_lossOf_61 (by decide) ?_
      refine sv_loc [2, 3, 1, 4, 0] (lvq := [(0, .ref ho), (1, .int x1), (2, .int (x2 + 0)), (3, .int x3), (4, .int (x4 + 1))]) rfl ?_
      exact hk_24 x1 (x2 + 0) x3 (x4 + 1) σ h
    · have h := sv_if c7 h
      refine sv_aload_n hC dX6_lossOf_45 0 rfl rfl ?_
      refine sv_get hC in_X6 0 rfl rfl 36 (by decide) q1092 rfl (v := .ref (a 36)) rfl dX6_lossOf_46 ?_
      refine sv_iload hC dX6_lossOf_49 4 rfl ?_
      obtain ⟨j8, ej8, h⟩ := sv_ob h
      refine sv_iald hC 16 (f := σ.2 36) rfl rfl (j := j8) ej8 dX6_lossOf_51 ?_
      refine sv_goto hC (tgt := 56) dX6_lossOf_52 (by decide) ?_
      refine sv_iadd hC dX6_lossOf_56 ?_
      refine sv_istore_n hC dX6_lossOf_57 rfl (by decide) (lvq := [(2, .int (x2 + (σ.2 36 j8))), (0, .ref ho), (1, .int x1), (3, .int x3), (4, .int x4)]) rfl ?_
      refine sv_iinc hC (v := x4 + 1) dX6_lossOf_58 4 rfl rfl (by decide) (lvq := [(4, .int (x4 + 1)), (2, .int (x2 + (σ.2 36 j8))), (0, .ref ho), (1, .int x1), (3, .int x3)]) rfl ?_
      refine sv_goto hC (tgt := 24) dX6_lossOf_61 (by decide) ?_
      refine sv_loc [2, 3, 1, 4, 0] (lvq := [(0, .ref ho), (1, .int x1), (2, .int (x2 + (σ.2 36 j8))), (3, .int x3), (4, .int (x4 + 1))]) rfl ?_
      exact hk_24 x1 (x2 + (σ.2 36 j8)) x3 (x4 + 1) σ h
set_option maxHeartbeats 2000000 in
theorem wk_md_lossOf_24 {Γ : sv_G} (ho : Nat) (a : Nat → Nat) (hC : sv_C Γ cX6_lossOf 5 RX6 (some .int) rm_X6_lossOf) {r0 : Int32 × MSt} (hQ : sv_RQ Γ (sv_pI r0.1 (MW (sg_dA Γ) ho a r0.2)) 0 0) (rk_8 : Int32 → Int32 → Int32 → MSt → Option (Int32 × MSt)) (hk_8 : ∀ (x1 : Int32) (x2 : Int32) (x3 : Int32) (σ : MSt), rk_8 x1 x2 x3 σ = some r0 → sv_V Γ (MW (sg_dA Γ) ho a σ) 0 0 8 [(0, .ref ho), (1, .int x1), (2, .int x2), (3, .int x3)] []) : ∀ (n : Nat) (x1 : Int32) (x2 : Int32) (x3 : Int32) (x4 : Int32) (σ : MSt)  (h : md_lossOf_24 rk_8 n x1 x2 x3 x4 σ = some r0), sv_V Γ (MW (sg_dA Γ) ho a σ) 0 0 24 [(0, .ref ho), (1, .int x1), (2, .int x2), (3, .int x3), (4, .int x4)] [] := by
  intro n
  induction n with
  | zero => intro x1 x2 x3 x4 σ h; cases h
  | succ n ih => intro x1 x2 x3 x4 σ h; exact wk_md_lossOf_24b ho a hC hQ rk_8 hk_8 (md_lossOf_24 rk_8 n) ih x1 x2 x3 x4 σ h
set_option maxHeartbeats 2000000 in
theorem wk_md_lossOf_8b {Γ : sv_G} (ho : Nat) (a : Nat → Nat) (hC : sv_C Γ cX6_lossOf 5 RX6 (some .int) rm_X6_lossOf) {r0 : Int32 × MSt} (hQ : sv_RQ Γ (sv_pI r0.1 (MW (sg_dA Γ) ho a r0.2)) 0 0)  (rk_8 : Int32 → Int32 → Int32 → MSt → Option (Int32 × MSt)) (hk_8 : ∀ (x1 : Int32) (x2 : Int32) (x3 : Int32) (σ : MSt), rk_8 x1 x2 x3 σ = some r0 → sv_V Γ (MW (sg_dA Γ) ho a σ) 0 0 8 [(0, .ref ho), (1, .int x1), (2, .int x2), (3, .int x3)] []) (x1 : Int32) (x2 : Int32) (x3 : Int32) (σ : MSt)  (h : md_lossOf_8b rk_8 x1 x2 x3 σ = some r0) : sv_V Γ (MW (sg_dA Γ) ho a σ) 0 0 8 [(0, .ref ho), (1, .int x1), (2, .int x2), (3, .int x3)] [] := by
  unfold md_lossOf_8b at h
  refine sv_iload_n hC dX6_lossOf_8 3 rfl rfl ?_
  refine sv_aload_n hC dX6_lossOf_9 0 rfl rfl ?_
  refine sv_get hC in_X6 0 rfl rfl 16 (by decide) q1072 rfl (v := .int (σ.1 16)) rfl dX6_lossOf_10 ?_
  refine sv_icmp_ge hC (tgt := 70) dX6_lossOf_13 (by decide) (fun c2 => ?_) (fun c2 => ?_)
  · have h := sv_it c2 h
    refine sv_iload_n hC dX6_lossOf_70 2 rfl rfl ?_
    exact sv_iret hC hQ dX6_lossOf_71 (by have e := Option.some.inj h; subst e; exact ⟨rfl, rfl⟩)
  · have h := sv_if c2 h
    refine sv_aload_n hC dX6_lossOf_16 0 rfl rfl ?_
    refine sv_iload_n hC dX6_lossOf_17 3 rfl rfl ?_
    obtain ⟨s3, es3, h⟩ := sv_ob h
    refine sv_wVv (nn := 1) hC (met_md_goDay hC.F ho a x3 σ es3) 0 0 rfl rfl rfl (lw_V q1292 q1294 qs37 q62 q1295) (by decide +kernel) ⟨by decide, by decide⟩ ⟨rfl, rfl⟩ rfl rfl (Nat.le_of_ble_eq_true rfl) ⟨Nat.le_refl 0, Nat.le_refl 0⟩ dX6_lossOf_18 ?_
    refine sv_iconst hC (v := 0) dX6_lossOf_21 (by decide) ?_
    refine sv_istore hC dX6_lossOf_22 (by decide) (lvq := [(4, .int 0), (0, .ref ho), (1, .int x1), (2, .int x2), (3, .int x3)]) rfl ?_
    refine sv_loc [1, 2, 3, 4, 0] (lvq := [(0, .ref ho), (1, .int x1), (2, .int x2), (3, .int x3), (4, .int 0)]) rfl ?_
    exact wk_md_lossOf_24 ho a hC hQ rk_8 hk_8 sv_FU x1 x2 x3 0 s3 h
set_option maxHeartbeats 2000000 in
theorem wk_md_lossOf_8 {Γ : sv_G} (ho : Nat) (a : Nat → Nat) (hC : sv_C Γ cX6_lossOf 5 RX6 (some .int) rm_X6_lossOf) {r0 : Int32 × MSt} (hQ : sv_RQ Γ (sv_pI r0.1 (MW (sg_dA Γ) ho a r0.2)) 0 0)  : ∀ (n : Nat) (x1 : Int32) (x2 : Int32) (x3 : Int32) (σ : MSt)  (h : md_lossOf_8 n x1 x2 x3 σ = some r0), sv_V Γ (MW (sg_dA Γ) ho a σ) 0 0 8 [(0, .ref ho), (1, .int x1), (2, .int x2), (3, .int x3)] [] := by
  intro n
  induction n with
  | zero => intro x1 x2 x3 σ h; cases h
  | succ n ih => intro x1 x2 x3 σ h; exact wk_md_lossOf_8b ho a hC hQ (md_lossOf_8 n) ih x1 x2 x3 σ h
set_option maxHeartbeats 2000000 in
theorem wk_md_lossOf {Γ : sv_G} (ho : Nat) (a : Nat → Nat) (hC : sv_C Γ cX6_lossOf 5 RX6 (some .int) rm_X6_lossOf) {r0 : Int32 × MSt} (hQ : sv_RQ Γ (sv_pI r0.1 (MW (sg_dA Γ) ho a r0.2)) 0 0) (x1 : Int32) (σ : MSt) (h : md_lossOf x1 σ = some r0) : sv_V Γ (MW (sg_dA Γ) ho a σ) 0 0 0 [(0, .ref ho), (1, .int x1)] [] := by
  unfold md_lossOf at h
  refine sv_aload_n hC dX6_lossOf_0 0 rfl rfl ?_
  obtain ⟨s1, es1, h⟩ := sv_ob h
  refine sv_wVv (nn := 0) hC (met_md_begin hC.F ho a σ es1) 0 0 rfl rfl rfl (lw_V q1288 q1290 qs36 q62 q1291) (by decide +kernel) ⟨by decide, by decide⟩ ⟨rfl, rfl⟩ rfl rfl (Nat.le_of_ble_eq_true rfl) ⟨Nat.le_refl 0, Nat.le_refl 0⟩ dX6_lossOf_1 ?_
  refine sv_iconst hC (v := 0) dX6_lossOf_4 (by decide) ?_
  refine sv_istore_n hC dX6_lossOf_5 rfl (by decide) (lvq := [(2, .int 0), (0, .ref ho), (1, .int x1)]) rfl ?_
  refine sv_iconst hC (v := 0) dX6_lossOf_6 (by decide) ?_
  refine sv_istore_n hC dX6_lossOf_7 rfl (by decide) (lvq := [(3, .int 0), (2, .int 0), (0, .ref ho), (1, .int x1)]) rfl ?_
  refine sv_loc [2, 3, 1, 0] (lvq := [(0, .ref ho), (1, .int x1), (2, .int 0), (3, .int 0)]) rfl ?_
  exact wk_md_lossOf_8 ho a hC hQ sv_FU x1 0 0 s1 h
set_option maxHeartbeats 2000000 in
theorem met_md_lossOf {l : Launch} {s0 : State} {D : va_G} {dA : Nat → ClassId} (hF : sv_F s0 D dA) (ho : Nat) (a : Nat → Nat) (x1 : Int32) (σ : MSt) {r0 : Int32 × MSt} (h : md_lossOf x1 σ = some r0) : sv_M l s0 D yX6_lossOf cX6_lossOf 5 (some .int) rm_X6_lossOf [.ref ho, .int x1] (MW dA ho a σ) (sv_pI r0.1 (MW dA ho a r0.2)) :=
  sv_met hF (by decide) (Nat.le_of_ble_eq_true rfl) (fun Γ hC hQ hmn e1 e2 e3 e4 => by
    subst e1 e2 e3 e4
    exact wk_md_lossOf ho a hC hQ x1 σ h)
set_option maxHeartbeats 2000000 in
theorem wk_md_wages_4b {Γ : sv_G} (ho : Nat) (a : Nat → Nat) (σ : MSt) (hC : sv_C Γ cX6_wages 4 RX6 (some .int) rm_X6_wages) {r0 : Int32} (hQ : sv_RQ Γ (sv_pI r0 (MW (sg_dA Γ) ho a σ)) 0 0)  (rk_4 : Int32 → Int32 → Option Int32) (hk_4 : ∀ (x1 : Int32) (x2 : Int32), rk_4 x1 x2 = some r0 → sv_V Γ (MW (sg_dA Γ) ho a σ) 0 0 4 [(0, .ref ho), (1, .int x1), (2, .int x2)] []) (x1 : Int32) (x2 : Int32)  (h : md_wages_4b σ rk_4 x1 x2 = some r0) : sv_V Γ (MW (sg_dA Γ) ho a σ) 0 0 4 [(0, .ref ho), (1, .int x1), (2, .int x2)] [] := by
  unfold md_wages_4b at h
  refine sv_iload_n hC dX6_wages_4 2 rfl rfl ?_
  refine sv_iconst hC (v := 4) dX6_wages_5 (by decide) ?_
  refine sv_aload_n hC dX6_wages_6 0 rfl rfl ?_
  refine sv_get hC in_X6 0 rfl rfl 16 (by decide) q1072 rfl (v := .int (σ.1 16)) rfl dX6_wages_7 ?_
  refine sv_imul hC dX6_wages_10 ?_
  refine sv_icmp_ge hC (tgt := 55) dX6_wages_11 (by decide) (fun c1 => ?_) (fun c1 => ?_)
  · have h := sv_it c1 h
    refine sv_iload_n hC dX6_wages_55 1 rfl rfl ?_
    refine sv_aload_n hC dX6_wages_56 0 rfl rfl ?_
    refine sv_get hC in_X6 0 rfl rfl 14 (by decide) q1070 rfl (v := .int (σ.1 14)) rfl dX6_wages_57 ?_
    refine sv_imul hC dX6_wages_60 ?_
    exact sv_iret hC hQ dX6_wages_61 (by have e := Option.some.inj h; subst e; exact ⟨rfl, rfl⟩)
  · have h := sv_if c1 h
    refine sv_aload_n hC dX6_wages_14 0 rfl rfl ?_
    refine sv_iload_n hC dX6_wages_15 2 rfl rfl ?_
    refine sv_iconst hC (v := 4) dX6_wages_16 (by decide) ?_
    refine sv_idiv hC dX6_wages_17 (by decide) ?_
    refine sv_iload_n hC dX6_wages_18 2 rfl rfl ?_
    refine sv_iconst hC (v := 4) dX6_wages_19 (by decide) ?_
    refine sv_irem hC dX6_wages_20 (by decide) ?_
    obtain ⟨r2, er2, h⟩ := sv_ob h
    refine sv_wVi (nn := 2) hC (met_md_coatAt hC.F ho a σ (x2 / 4) (x2 - x2 / 4 * 4) er2) 0 0 rfl rfl rfl (lw_V q1300 q1302 qs39 q62 q1303) (by decide +kernel) ⟨by decide, by decide⟩ ⟨rfl, rfl⟩ rfl rfl (Nat.le_of_ble_eq_true rfl) ⟨Nat.le_refl 0, Nat.le_refl 0⟩ dX6_wages_21 ?_
    refine sv_istore_n hC dX6_wages_24 rfl (by decide) (lvq := [(3, .int r2), (0, .ref ho), (1, .int x1), (2, .int x2)]) rfl ?_
    refine sv_iload_n hC dX6_wages_25 2 rfl rfl ?_
    refine sv_iload_n hC dX6_wages_26 0 rfl rfl ?_
    refine sv_iconst hC (v := (-1)) dX6_wages_27 (by decide) ?_
    refine sv_icmp_eq hC (tgt := 46) dX6_wages_28 (by decide) (fun c3 => ?_) (fun c3 => ?_)
    · have h := sv_it c3 h
      refine sv_iconst hC (v := 0) dX6_wages_46 (by decide) ?_
      refine sv_iadd hC dX6_wages_47 ?_
      refine sv_istore_n hC dX6_wages_48 rfl (by decide) (lvq := [(1, .int (x1 + 0)), (3, .int r2), (0, .ref ho), (2, .int x2)]) rfl ?_
      refine sv_iinc hC (v := x2 + 1) dX6_wages_49 3 rfl rfl (by decide) (lvq := [(2, .int (x2 + 1)), (1, .int (x1 + 0)), (3, .int r2), (0, .ref ho)]) rfl ?_
      refine sv_goto hC (tgt := 4) dX6_wages_52 (by decide) ?_
      refine sv_loc [3, 1, 0] (lvq := [(0, .ref ho), (1, .int (x1 + 0)), (2, .int (x2 + 1))]) rfl ?_
      exact hk_4 (x1 + 0) (x2 + 1) h
    · have h := sv_if c3 h
      refine sv_aload_n hC dX6_wages_31 1 rfl rfl ?_
      refine sv_iload_n hC dX6_wages_32 3 rfl rfl ?_
      refine sv_iconst hC (v := 4) dX6_wages_33 (by decide) ?_
      refine sv_idiv hC dX6_wages_34 (by decide) ?_
      refine sv_iload_n hC dX6_wages_35 0 rfl rfl ?_
      obtain ⟨r4, er4, h⟩ := sv_ob h
      refine sv_wVi (nn := 2) hC (met_md_isReal hC.F ho a σ (x2 / 4) r2 er4) 0 0 rfl rfl rfl (lw_V q1304 q1306 qs40 q62 q1307) (by decide +kernel) ⟨by decide, by decide⟩ ⟨rfl, rfl⟩ rfl rfl (Nat.le_of_ble_eq_true rfl) ⟨Nat.le_refl 0, Nat.le_refl 0⟩ dX6_wages_36 ?_
      refine sv_if_eq hC (tgt := 46) dX6_wages_39 (by decide) (fun c5 => ?_) (fun c5 => ?_)
      · have h := sv_it c5 h
        refine sv_iconst hC (v := 0) dX6_wages_46 (by decide) ?_
        refine sv_iadd hC dX6_wages_47 ?_
        refine sv_istore_n hC dX6_wages_48 rfl (by decide) (lvq := [(1, .int (x1 + 0)), (3, .int r2), (0, .ref ho), (2, .int x2)]) rfl ?_
        refine sv_iinc hC (v := x2 + 1) dX6_wages_49 3 rfl rfl (by decide) (lvq := [(2, .int (x2 + 1)), (1, .int (x1 + 0)), (3, .int r2), (0, .ref ho)]) rfl ?_
        refine sv_goto hC (tgt := 4) dX6_wages_52 (by decide) ?_
        refine sv_loc [3, 1, 0] (lvq := [(0, .ref ho), (1, .int (x1 + 0)), (2, .int (x2 + 1))]) rfl ?_
        exact hk_4 (x1 + 0) (x2 + 1) h
      · have h := sv_if c5 h
        refine sv_iconst hC (v := 1) dX6_wages_42 (by decide) ?_
        refine sv_goto hC (tgt := 47) dX6_wages_43 (by decide) ?_
        refine sv_iadd hC dX6_wages_47 ?_
        refine sv_istore_n hC dX6_wages_48 rfl (by decide) (lvq := [(1, .int (x1 + 1)), (3, .int r2), (0, .ref ho), (2, .int x2)]) rfl ?_
        refine sv_iinc hC (v := x2 + 1) dX6_wages_49 3 rfl rfl (by decide) (lvq := [(2, .int (x2 + 1)), (1, .int (x1 + 1)), (3, .int r2), (0, .ref ho)]) rfl ?_
        refine sv_goto hC (tgt := 4) dX6_wages_52 (by decide) ?_
        refine sv_loc [3, 1, 0] (lvq := [(0, .ref ho), (1, .int (x1 + 1)), (2, .int (x2 + 1))]) rfl ?_
        exact hk_4 (x1 + 1) (x2 + 1) h
set_option maxHeartbeats 2000000 in
theorem wk_md_wages_4 {Γ : sv_G} (ho : Nat) (a : Nat → Nat) (σ : MSt) (hC : sv_C Γ cX6_wages 4 RX6 (some .int) rm_X6_wages) {r0 : Int32} (hQ : sv_RQ Γ (sv_pI r0 (MW (sg_dA Γ) ho a σ)) 0 0)  : ∀ (n : Nat) (x1 : Int32) (x2 : Int32)  (h : md_wages_4 σ n x1 x2 = some r0), sv_V Γ (MW (sg_dA Γ) ho a σ) 0 0 4 [(0, .ref ho), (1, .int x1), (2, .int x2)] [] := by
  intro n
  induction n with
  | zero => intro x1 x2 h; cases h
  | succ n ih => intro x1 x2 h; exact wk_md_wages_4b ho a σ hC hQ (md_wages_4 σ n) ih x1 x2 h
set_option maxHeartbeats 2000000 in
theorem wk_md_wages {Γ : sv_G} (ho : Nat) (a : Nat → Nat) (σ : MSt) (hC : sv_C Γ cX6_wages 4 RX6 (some .int) rm_X6_wages) {r0 : Int32} (hQ : sv_RQ Γ (sv_pI r0 (MW (sg_dA Γ) ho a σ)) 0 0)  (h : md_wages σ  = some r0) : sv_V Γ (MW (sg_dA Γ) ho a σ) 0 0 0 [(0, .ref ho)] [] := by
  unfold md_wages at h
  refine sv_iconst hC (v := 0) dX6_wages_0 (by decide) ?_
  refine sv_istore_n hC dX6_wages_1 rfl (by decide) (lvq := [(1, .int 0), (0, .ref ho)]) rfl ?_
  refine sv_iconst hC (v := 0) dX6_wages_2 (by decide) ?_
  refine sv_istore_n hC dX6_wages_3 rfl (by decide) (lvq := [(2, .int 0), (1, .int 0), (0, .ref ho)]) rfl ?_
  refine sv_loc [2, 1, 0] (lvq := [(0, .ref ho), (1, .int 0), (2, .int 0)]) rfl ?_
  exact wk_md_wages_4 ho a σ hC hQ sv_FU 0 0 h
set_option maxHeartbeats 2000000 in
theorem met_md_wages {l : Launch} {s0 : State} {D : va_G} {dA : Nat → ClassId} (hF : sv_F s0 D dA) (ho : Nat) (a : Nat → Nat) (σ : MSt)  {r0 : Int32} (h : md_wages σ  = some r0) : sv_M l s0 D yX6_wages cX6_wages 4 (some .int) rm_X6_wages [.ref ho] (MW dA ho a σ) (sv_pI r0 (MW dA ho a σ)) :=
  sv_met hF (by decide) (Nat.le_of_ble_eq_true rfl) (fun Γ hC hQ hmn e1 e2 e3 e4 => by
    subst e1 e2 e3 e4
    exact wk_md_wages ho a σ hC hQ  h)
set_option maxHeartbeats 2000000 in
theorem wk_md_cost {Γ : sv_G} (ho : Nat) (a : Nat → Nat) (hC : sv_C Γ cX6_cost 2 RX6 (some .int) rm_X6_cost) {r0 : Int32 × MSt} (hQ : sv_RQ Γ (sv_pI r0.1 (MW (sg_dA Γ) ho a r0.2)) 0 0) (x1 : Int32) (σ : MSt) (h : md_cost x1 σ = some r0) : sv_V Γ (MW (sg_dA Γ) ho a σ) 0 0 0 [(0, .ref ho), (1, .int x1)] [] := by
  unfold md_cost at h
  refine sv_aload_n hC dX6_cost_0 0 rfl rfl ?_
  obtain ⟨s1, es1, h⟩ := sv_ob h
  refine sv_wVv (nn := 0) hC (met_md_asPlanned hC.F ho a σ es1) 0 0 rfl rfl rfl (lw_V q1280 q1282 qs34 q62 q1283) (by decide +kernel) ⟨by decide, by decide⟩ ⟨rfl, rfl⟩ rfl rfl (Nat.le_of_ble_eq_true rfl) ⟨Nat.le_refl 0, Nat.le_refl 0⟩ dX6_cost_1 ?_
  refine sv_iload_n hC dX6_cost_4 1 rfl rfl ?_
  by_cases c2 : x1 = 0
  · have h := sv_it c2 h
    refine sv_tabIn hC (tgt := 32) dX6_cost_5 0 c2 (by decide) (by decide) rfl (by decide) ?_
    refine sv_aload_n hC dX6_cost_32 0 rfl rfl ?_
    refine sv_bipush hC (v := 15) dX6_cost_33 (by decide) ?_
    obtain ⟨p3, ep3, h⟩ := sv_ob h
    refine sv_wVi (nn := 1) hC (met_md_lossOf hC.F ho a 15 s1 ep3) 0 0 rfl rfl rfl (lw_V q1332 q1334 qs43 q62 q1335) (by decide +kernel) ⟨by decide, by decide⟩ ⟨rfl, rfl⟩ rfl rfl (Nat.le_of_ble_eq_true rfl) ⟨Nat.le_refl 0, Nat.le_refl 0⟩ dX6_cost_35 ?_
    refine sv_aload_n hC dX6_cost_38 0 rfl rfl ?_
    refine sv_get hC in_X6 0 rfl rfl 15 (by decide) q1071 rfl (v := .int (p3.2.1 15)) rfl dX6_cost_39 ?_
    refine sv_imul hC dX6_cost_42 ?_
    refine sv_aload_n hC dX6_cost_43 0 rfl rfl ?_
    obtain ⟨r4, er4, h⟩ := sv_ob h
    refine sv_wVi (nn := 0) hC (met_md_wages hC.F ho a p3.2 er4) 0 0 rfl rfl rfl (lw_V q1336 q1338 qs44 q62 q1339) (by decide +kernel) ⟨by decide, by decide⟩ ⟨rfl, rfl⟩ rfl rfl (Nat.le_of_ble_eq_true rfl) ⟨Nat.le_refl 0, Nat.le_refl 0⟩ dX6_cost_44 ?_
    refine sv_iadd hC dX6_cost_47 ?_
    exact sv_iret hC hQ dX6_cost_48 (by have e := Option.some.inj h; subst e; exact ⟨rfl, rfl⟩)
  · have h := sv_if c2 h
    by_cases c5 : x1 = 1
    · have h := sv_it c5 h
      refine sv_tabIn hC (tgt := 49) dX6_cost_5 1 c5 (by decide) (by decide) rfl (by decide) ?_
      refine sv_aload_n hC dX6_cost_49 0 rfl rfl ?_
      refine sv_bipush hC (v := 15) dX6_cost_50 (by decide) ?_
      obtain ⟨p6, ep6, h⟩ := sv_ob h
      refine sv_wVi (nn := 1) hC (met_md_lossOf hC.F ho a 15 s1 ep6) 0 0 rfl rfl rfl (lw_V q1332 q1334 qs43 q62 q1335) (by decide +kernel) ⟨by decide, by decide⟩ ⟨rfl, rfl⟩ rfl rfl (Nat.le_of_ble_eq_true rfl) ⟨Nat.le_refl 0, Nat.le_refl 0⟩ dX6_cost_52 ?_
      exact sv_iret hC hQ dX6_cost_55 (by have e := Option.some.inj h; subst e; exact ⟨rfl, rfl⟩)
    · have h := sv_if c5 h
      by_cases c7 : x1 = 2
      · have h := sv_it c7 h
        refine sv_tabIn hC (tgt := 56) dX6_cost_5 2 c7 (by decide) (by decide) rfl (by decide) ?_
        refine sv_aload_n hC dX6_cost_56 0 rfl rfl ?_
        obtain ⟨r8, er8, h⟩ := sv_ob h
        refine sv_wVi (nn := 0) hC (met_md_wages hC.F ho a s1 er8) 0 0 rfl rfl rfl (lw_V q1336 q1338 qs44 q62 q1339) (by decide +kernel) ⟨by decide, by decide⟩ ⟨rfl, rfl⟩ rfl rfl (Nat.le_of_ble_eq_true rfl) ⟨Nat.le_refl 0, Nat.le_refl 0⟩ dX6_cost_57 ?_
        exact sv_iret hC hQ dX6_cost_60 (by have e := Option.some.inj h; subst e; exact ⟨rfl, rfl⟩)
      · have h := sv_if c7 h
        have hso : x1.toInt < 0 ∨ ((2 : Nat) : Int) < x1.toInt := sv_swOut (N := 2) (by decide) (fun j hj => by
          rcases (show j = 0 ∨ j = 1 ∨ j = 2 by omega) with rfl | rfl | rfl
          · exact c2
          · exact c5
          · exact c7)
        refine sv_tabOut hC (tgt := 61) dX6_cost_5 hso (by decide) ?_
        refine sv_bipush hC (v := (-3)) dX6_cost_61 (by decide) ?_
        exact sv_iret hC hQ dX6_cost_63 (by have e := Option.some.inj h; subst e; exact ⟨rfl, rfl⟩)
set_option maxHeartbeats 2000000 in
theorem met_md_cost {l : Launch} {s0 : State} {D : va_G} {dA : Nat → ClassId} (hF : sv_F s0 D dA) (ho : Nat) (a : Nat → Nat) (x1 : Int32) (σ : MSt) {r0 : Int32 × MSt} (h : md_cost x1 σ = some r0) : sv_M l s0 D yX6_cost cX6_cost 2 (some .int) rm_X6_cost [.ref ho, .int x1] (MW dA ho a σ) (sv_pI r0.1 (MW dA ho a r0.2)) :=
  sv_met hF (by decide) (Nat.le_of_ble_eq_true rfl) (fun Γ hC hQ hmn e1 e2 e3 e4 => by
    subst e1 e2 e3 e4
    exact wk_md_cost ho a hC hQ x1 σ h)
set_option maxHeartbeats 2000000 in
theorem wk_md_keep_31b {Γ : sv_G} (ho : Nat) (a : Nat → Nat) (hC : sv_C Γ cX6_keep 3 RX6 none rm_X6_keep) {r0 : MSt} (hQ : sv_RQ Γ (sv_pV (MW (sg_dA Γ) ho a r0)) 0 0)  (rk_31 : Int32 → Int32 → MSt → Option MSt) (hk_31 : ∀ (x1 : Int32) (x2 : Int32) (σ : MSt), rk_31 x1 x2 σ = some r0 → sv_V Γ (MW (sg_dA Γ) ho a σ) 0 0 31 [(0, .ref ho), (1, .int x1), (2, .int x2)] []) (x1 : Int32) (x2 : Int32) (σ : MSt)  (h : md_keep_31b rk_31 x1 x2 σ = some r0) : sv_V Γ (MW (sg_dA Γ) ho a σ) 0 0 31 [(0, .ref ho), (1, .int x1), (2, .int x2)] [] := by
  unfold md_keep_31b at h
  refine sv_iload_n hC dX6_keep_31 2 rfl rfl ?_
  refine sv_bipush hC (v := 16) dX6_keep_32 (by decide) ?_
  refine sv_icmp_ge hC (tgt := 60) dX6_keep_34 (by decide) (fun c4 => ?_) (fun c4 => ?_)
  · have h := sv_it c4 h
    exact sv_vret hC hQ dX6_keep_60 (by have e := Option.some.inj h; subst e; exact ⟨rfl, rfl⟩)
  · have h := sv_if c4 h
    refine sv_aload_n hC dX6_keep_37 0 rfl rfl ?_
    refine sv_get hC in_X6 0 rfl rfl 38 (by decide) q1094 rfl (v := .ref (a 38)) rfl dX6_keep_38 ?_
    refine sv_bipush hC (v := 16) dX6_keep_41 (by decide) ?_
    refine sv_iload_n hC dX6_keep_43 1 rfl rfl ?_
    refine sv_imul hC dX6_keep_44 ?_
    refine sv_iload_n hC dX6_keep_45 2 rfl rfl ?_
    refine sv_iadd hC dX6_keep_46 ?_
    refine sv_aload_n hC dX6_keep_47 0 rfl rfl ?_
    refine sv_get hC in_X6 0 rfl rfl 34 (by decide) q1090 rfl (v := .ref (a 34)) rfl dX6_keep_48 ?_
    refine sv_iload_n hC dX6_keep_51 2 rfl rfl ?_
    obtain ⟨j5, ej5, h⟩ := sv_ob h
    refine sv_iald hC 14 (f := σ.2 34) rfl rfl (j := j5) ej5 dX6_keep_52 ?_
    obtain ⟨j6, ej6, h⟩ := sv_ob h
    refine sv_iast hC 18 (f := σ.2 38) rfl rfl (j := j6) ej6 (Xq := MW (sg_dA Γ) ho a (ms_a σ 38 j6 (σ.2 34 j5))) rfl dX6_keep_53 ?_
    refine sv_iinc hC (v := x2 + 1) dX6_keep_54 2 rfl rfl (by decide) (lvq := [(2, .int (x2 + 1)), (0, .ref ho), (1, .int x1)]) rfl ?_
    refine sv_goto hC (tgt := 31) dX6_keep_57 (by decide) ?_
    refine sv_loc [1, 2, 0] (lvq := [(0, .ref ho), (1, .int x1), (2, .int (x2 + 1))]) rfl ?_
    exact hk_31 x1 (x2 + 1) (ms_a σ 38 j6 (σ.2 34 j5)) h
set_option maxHeartbeats 2000000 in
theorem wk_md_keep_31 {Γ : sv_G} (ho : Nat) (a : Nat → Nat) (hC : sv_C Γ cX6_keep 3 RX6 none rm_X6_keep) {r0 : MSt} (hQ : sv_RQ Γ (sv_pV (MW (sg_dA Γ) ho a r0)) 0 0)  : ∀ (n : Nat) (x1 : Int32) (x2 : Int32) (σ : MSt)  (h : md_keep_31 n x1 x2 σ = some r0), sv_V Γ (MW (sg_dA Γ) ho a σ) 0 0 31 [(0, .ref ho), (1, .int x1), (2, .int x2)] [] := by
  intro n
  induction n with
  | zero => intro x1 x2 σ h; cases h
  | succ n ih => intro x1 x2 σ h; exact wk_md_keep_31b ho a hC hQ (md_keep_31 n) ih x1 x2 σ h
set_option maxHeartbeats 2000000 in
theorem wk_md_keep_2b {Γ : sv_G} (ho : Nat) (a : Nat → Nat) (hC : sv_C Γ cX6_keep 3 RX6 none rm_X6_keep) {r0 : MSt} (hQ : sv_RQ Γ (sv_pV (MW (sg_dA Γ) ho a r0)) 0 0)  (rk_2 : Int32 → Int32 → MSt → Option MSt) (hk_2 : ∀ (x1 : Int32) (x2 : Int32) (σ : MSt), rk_2 x1 x2 σ = some r0 → sv_V Γ (MW (sg_dA Γ) ho a σ) 0 0 2 [(0, .ref ho), (1, .int x1), (2, .int x2)] []) (x1 : Int32) (x2 : Int32) (σ : MSt)  (h : md_keep_2b rk_2 x1 x2 σ = some r0) : sv_V Γ (MW (sg_dA Γ) ho a σ) 0 0 2 [(0, .ref ho), (1, .int x1), (2, .int x2)] [] := by
  unfold md_keep_2b at h
  refine sv_iload_n hC dX6_keep_2 2 rfl rfl ?_
  refine sv_iconst hC (v := 4) dX6_keep_3 (by decide) ?_
  refine sv_icmp_ge hC (tgt := 29) dX6_keep_4 (by decide) (fun c1 => ?_) (fun c1 => ?_)
  · have h := sv_it c1 h
    refine sv_iconst hC (v := 0) dX6_keep_29 (by decide) ?_
    refine sv_istore_n hC dX6_keep_30 rfl (by decide) (lvq := [(2, .int 0), (0, .ref ho), (1, .int x1)]) rfl ?_
    refine sv_loc [1, 2, 0] (lvq := [(0, .ref ho), (1, .int x1), (2, .int 0)]) rfl ?_
    exact wk_md_keep_31 ho a hC hQ sv_FU x1 0 σ h
  · have h := sv_if c1 h
    refine sv_aload_n hC dX6_keep_7 0 rfl rfl ?_
    refine sv_get hC in_X6 0 rfl rfl 37 (by decide) q1093 rfl (v := .ref (a 37)) rfl dX6_keep_8 ?_
    refine sv_iconst hC (v := 4) dX6_keep_11 (by decide) ?_
    refine sv_iload_n hC dX6_keep_12 1 rfl rfl ?_
    refine sv_imul hC dX6_keep_13 ?_
    refine sv_iload_n hC dX6_keep_14 2 rfl rfl ?_
    refine sv_iadd hC dX6_keep_15 ?_
    refine sv_aload_n hC dX6_keep_16 0 rfl rfl ?_
    refine sv_get hC in_X6 0 rfl rfl 33 (by decide) q1089 rfl (v := .ref (a 33)) rfl dX6_keep_17 ?_
    refine sv_iload_n hC dX6_keep_20 2 rfl rfl ?_
    obtain ⟨j2, ej2, h⟩ := sv_ob h
    refine sv_iald hC 13 (f := σ.2 33) rfl rfl (j := j2) ej2 dX6_keep_21 ?_
    obtain ⟨j3, ej3, h⟩ := sv_ob h
    refine sv_iast hC 17 (f := σ.2 37) rfl rfl (j := j3) ej3 (Xq := MW (sg_dA Γ) ho a (ms_a σ 37 j3 (σ.2 33 j2))) rfl dX6_keep_22 ?_
    refine sv_iinc hC (v := x2 + 1) dX6_keep_23 2 rfl rfl (by decide) (lvq := [(2, .int (x2 + 1)), (0, .ref ho), (1, .int x1)]) rfl ?_
    refine sv_goto hC (tgt := 2) dX6_keep_26 (by decide) ?_
    refine sv_loc [1, 2, 0] (lvq := [(0, .ref ho), (1, .int x1), (2, .int (x2 + 1))]) rfl ?_
    exact hk_2 x1 (x2 + 1) (ms_a σ 37 j3 (σ.2 33 j2)) h
set_option maxHeartbeats 2000000 in
theorem wk_md_keep_2 {Γ : sv_G} (ho : Nat) (a : Nat → Nat) (hC : sv_C Γ cX6_keep 3 RX6 none rm_X6_keep) {r0 : MSt} (hQ : sv_RQ Γ (sv_pV (MW (sg_dA Γ) ho a r0)) 0 0)  : ∀ (n : Nat) (x1 : Int32) (x2 : Int32) (σ : MSt)  (h : md_keep_2 n x1 x2 σ = some r0), sv_V Γ (MW (sg_dA Γ) ho a σ) 0 0 2 [(0, .ref ho), (1, .int x1), (2, .int x2)] [] := by
  intro n
  induction n with
  | zero => intro x1 x2 σ h; cases h
  | succ n ih => intro x1 x2 σ h; exact wk_md_keep_2b ho a hC hQ (md_keep_2 n) ih x1 x2 σ h
set_option maxHeartbeats 2000000 in
theorem wk_md_keep {Γ : sv_G} (ho : Nat) (a : Nat → Nat) (hC : sv_C Γ cX6_keep 3 RX6 none rm_X6_keep) {r0 : MSt} (hQ : sv_RQ Γ (sv_pV (MW (sg_dA Γ) ho a r0)) 0 0) (x1 : Int32) (σ : MSt) (h : md_keep x1 σ = some r0) : sv_V Γ (MW (sg_dA Γ) ho a σ) 0 0 0 [(0, .ref ho), (1, .int x1)] [] := by
  unfold md_keep at h
  refine sv_iconst hC (v := 0) dX6_keep_0 (by decide) ?_
  refine sv_istore_n hC dX6_keep_1 rfl (by decide) (lvq := [(2, .int 0), (0, .ref ho), (1, .int x1)]) rfl ?_
  refine sv_loc [1, 2, 0] (lvq := [(0, .ref ho), (1, .int x1), (2, .int 0)]) rfl ?_
  exact wk_md_keep_2 ho a hC hQ sv_FU x1 0 σ h
set_option maxHeartbeats 2000000 in
theorem met_md_keep {l : Launch} {s0 : State} {D : va_G} {dA : Nat → ClassId} (hF : sv_F s0 D dA) (ho : Nat) (a : Nat → Nat) (x1 : Int32) (σ : MSt) {r0 : MSt} (h : md_keep x1 σ = some r0) : sv_M l s0 D yX6_keep cX6_keep 3 none rm_X6_keep [.ref ho, .int x1] (MW dA ho a σ) (sv_pV (MW dA ho a r0)) :=
  sv_met hF (by decide) (Nat.le_of_ble_eq_true rfl) (fun Γ hC hQ hmn e1 e2 e3 e4 => by
    subst e1 e2 e3 e4
    exact wk_md_keep ho a hC hQ x1 σ h)
set_option maxHeartbeats 2000000 in
theorem wk_md_layTried_89 {Γ : sv_G} (ho : Nat) (a : Nat → Nat) (hC : sv_C Γ cX6_layTried 8 RX6 (some .boolean) rm_X6_layTried) {r0 : Int32 × MSt} (hQ : sv_RQ Γ (sv_pI r0.1 (MW (sg_dA Γ) ho a r0.2)) 0 0) (rk_11 : Int32 → Int32 → Int32 → Int32 → Int32 → MSt → Option (Int32 × MSt)) (hk_11 : ∀ (x1 : Int32) (x3 : Int32) (x4 : Int32) (x5 : Int32) (x6 : Int32) (σ : MSt), rk_11 x1 x3 x4 x5 x6 σ = some r0 → sv_V Γ (MW (sg_dA Γ) ho a σ) 0 0 11 [(0, .ref ho), (1, .int x1), (3, .int x3), (4, .int x4), (5, .int x5), (6, .int x6)] []) (x1 : Int32) (x3 : Int32) (x4 : Int32) (x6 : Int32) (x7 : Int32) (t0 : Int32) (σ : MSt)  (h : md_layTried_89 rk_11 x1 x3 x4 x6 x7 t0 σ = some r0) : sv_V Γ (MW (sg_dA Γ) ho a σ) 0 0 89 [(0, .ref ho), (1, .int x1), (3, .int x3), (4, .int x4), (6, .int x6), (7, .int x7)] [.int t0] := by
  unfold md_layTried_89 at h
  refine sv_istore hC dX6_layTried_89 (by decide) (lvq := [(5, .int t0), (0, .ref ho), (1, .int x1), (3, .int x3), (4, .int x4), (6, .int x6), (7, .int x7)]) rfl ?_
  refine sv_iload hC dX6_layTried_91 4 rfl ?_
  refine sv_iconst hC (v := 1) dX6_layTried_93 (by decide) ?_
  refine sv_iload hC dX6_layTried_94 6 rfl ?_
  refine sv_ishl hC dX6_layTried_96 ?_
  refine sv_ior hC dX6_layTried_97 ?_
  refine sv_istore hC dX6_layTried_98 (by decide) (lvq := [(4, .int (x4 ||| ((1 : Int32) <<< (x7 &&& 31)))), (5, .int t0), (0, .ref ho), (1, .int x1), (3, .int x3), (6, .int x6), (7, .int x7)]) rfl ?_
  refine sv_iinc hC (v := x6 + (-1)) dX6_layTried_100 5 rfl rfl (by decide) (lvq := [(6, .int (x6 + (-1))), (4, .int (x4 ||| ((1 : Int32) <<< (x7 &&& 31)))), (5, .int t0), (0, .ref ho), (1, .int x1), (3, .int x3), (7, .int x7)]) rfl ?_
  refine sv_goto hC (tgt := 11) dX6_layTried_103 (by decide) ?_
  refine sv_loc [3, 4, 5, 1, 2, 0] (lvq := [(0, .ref ho), (1, .int x1), (3, .int x3), (4, .int (x4 ||| ((1 : Int32) <<< (x7 &&& 31)))), (5, .int t0), (6, .int (x6 + (-1)))]) rfl ?_
  exact hk_11 x1 x3 (x4 ||| ((1 : Int32) <<< (x7 &&& 31))) t0 (x6 + (-1)) σ h
set_option maxHeartbeats 2000000 in
theorem wk_md_layTried_11b {Γ : sv_G} (ho : Nat) (a : Nat → Nat) (hC : sv_C Γ cX6_layTried 8 RX6 (some .boolean) rm_X6_layTried) {r0 : Int32 × MSt} (hQ : sv_RQ Γ (sv_pI r0.1 (MW (sg_dA Γ) ho a r0.2)) 0 0)  (rk_11 : Int32 → Int32 → Int32 → Int32 → Int32 → MSt → Option (Int32 × MSt)) (hk_11 : ∀ (x1 : Int32) (x3 : Int32) (x4 : Int32) (x5 : Int32) (x6 : Int32) (σ : MSt), rk_11 x1 x3 x4 x5 x6 σ = some r0 → sv_V Γ (MW (sg_dA Γ) ho a σ) 0 0 11 [(0, .ref ho), (1, .int x1), (3, .int x3), (4, .int x4), (5, .int x5), (6, .int x6)] []) (x1 : Int32) (x3 : Int32) (x4 : Int32) (x5 : Int32) (x6 : Int32) (σ : MSt)  (h : md_layTried_11b rk_11 x1 x3 x4 x5 x6 σ = some r0) : sv_V Γ (MW (sg_dA Γ) ho a σ) 0 0 11 [(0, .ref ho), (1, .int x1), (3, .int x3), (4, .int x4), (5, .int x5), (6, .int x6)] [] := by
  unfold md_layTried_11b at h
  refine sv_iload hC dX6_layTried_11 5 rfl ?_
  refine sv_if_lt hC (tgt := 106) dX6_layTried_13 (by decide) (fun c1 => ?_) (fun c1 => ?_)
  · have h := sv_it c1 h
    refine sv_iload hC dX6_layTried_106 4 rfl ?_
    obtain ⟨b2, eb2, h⟩ := sv_ob h
    obtain ⟨e1, e2⟩ := sv_zb_n eb2
    subst e1
    exact sv_zret hC hQ dX6_layTried_108 e2 (by have e := Option.some.inj h; subst e; exact ⟨rfl, rfl⟩)
  · have h := sv_if c1 h
    refine sv_iload_n hC dX6_layTried_16 2 rfl rfl ?_
    refine sv_iconst hC (v := 5) dX6_layTried_17 (by decide) ?_
    refine sv_irem hC dX6_layTried_18 (by decide) ?_
    refine sv_istore hC dX6_layTried_19 (by decide) (lvq := [(7, .int (x3 - x3 / 5 * 5)), (0, .ref ho), (1, .int x1), (3, .int x3), (4, .int x4), (5, .int x5), (6, .int x6)]) rfl ?_
    refine sv_iload_n hC dX6_layTried_21 3 rfl rfl ?_
    refine sv_iconst hC (v := 5) dX6_layTried_22 (by decide) ?_
    refine sv_idiv hC dX6_layTried_23 (by decide) ?_
    refine sv_istore_n hC dX6_layTried_24 rfl (by decide) (lvq := [(3, .int (x3 / 5)), (7, .int (x3 - x3 / 5 * 5)), (0, .ref ho), (1, .int x1), (4, .int x4), (5, .int x5), (6, .int x6)]) rfl ?_
    refine sv_aload_n hC dX6_layTried_25 2 rfl rfl ?_
    refine sv_get hC in_X6 0 rfl rfl 32 (by decide) q1088 rfl (v := .ref (a 32)) rfl dX6_layTried_26 ?_
    refine sv_iconst hC (v := 4) dX6_layTried_29 (by decide) ?_
    refine sv_iload_n hC dX6_layTried_30 3 rfl rfl ?_
    refine sv_imul hC dX6_layTried_31 ?_
    refine sv_iload hC dX6_layTried_32 6 rfl ?_
    refine sv_iadd hC dX6_layTried_34 ?_
    refine sv_iload hC dX6_layTried_35 1 rfl ?_
    obtain ⟨j3, ej3, h⟩ := sv_ob h
    refine sv_iast hC 12 (f := σ.2 32) rfl rfl (j := j3) ej3 (Xq := MW (sg_dA Γ) ho a (ms_a σ 32 j3 (x3 - x3 / 5 * 5))) rfl dX6_layTried_37 ?_
    refine sv_iload hC dX6_layTried_38 5 rfl ?_
    refine sv_if_eq hC (tgt := 88) dX6_layTried_40 (by decide) (fun c4 => ?_) (fun c4 => ?_)
    · have h := sv_it c4 h
      refine sv_iconst hC (v := 0) dX6_layTried_88 (by decide) ?_
      refine sv_loc [2, 3, 0, 4, 6, 1] (lvq := [(0, .ref ho), (1, .int x1), (3, .int (x3 / 5)), (4, .int x4), (6, .int x6), (7, .int (x3 - x3 / 5 * 5))]) rfl ?_
      exact wk_md_layTried_89 ho a hC hQ rk_11 hk_11 x1 (x3 / 5) x4 x6 (x3 - x3 / 5 * 5) 0 (ms_a σ 32 j3 (x3 - x3 / 5 * 5)) h
    · have h := sv_if c4 h
      refine sv_iload hC dX6_layTried_43 1 rfl ?_
      refine sv_if_eq hC (tgt := 84) dX6_layTried_45 (by decide) (fun c5 => ?_) (fun c5 => ?_)
      · have h := sv_it c5 h
        refine sv_iconst hC (v := 1) dX6_layTried_84 (by decide) ?_
        refine sv_goto hC (tgt := 89) dX6_layTried_85 (by decide) ?_
        refine sv_loc [2, 3, 0, 4, 6, 1] (lvq := [(0, .ref ho), (1, .int x1), (3, .int (x3 / 5)), (4, .int x4), (6, .int x6), (7, .int (x3 - x3 / 5 * 5))]) rfl ?_
        exact wk_md_layTried_89 ho a hC hQ rk_11 hk_11 x1 (x3 / 5) x4 x6 (x3 - x3 / 5 * 5) 1 (ms_a σ 32 j3 (x3 - x3 / 5 * 5)) h
      · have h := sv_if c5 h
        refine sv_aload_n hC dX6_layTried_48 2 rfl rfl ?_
        refine sv_get hC in_X6 0 rfl rfl 4 (by decide) q1060 rfl (v := .int (σ.1 4)) rfl dX6_layTried_49 ?_
        refine sv_iload hC dX6_layTried_52 6 rfl ?_
        obtain ⟨r6, er6, h⟩ := sv_ob h
        refine sv_pSi (nn := 2) hC (met_md_has hC.F (σ.1 4) x6 er6) (lw_S q1243 q1244 q62 q1245) (by decide +kernel) ⟨by decide, by decide⟩ ⟨rfl, rfl⟩ rfl rfl (Nat.le_of_ble_eq_true rfl) ⟨Nat.le_refl 0, Nat.le_refl 0⟩ dX6_layTried_54 ?_
        refine sv_if_eq hC (tgt := 88) dX6_layTried_57 (by decide) (fun c7 => ?_) (fun c7 => ?_)
        · have h := sv_it c7 h
          refine sv_iconst hC (v := 0) dX6_layTried_88 (by decide) ?_
          refine sv_loc [2, 3, 0, 4, 6, 1] (lvq := [(0, .ref ho), (1, .int x1), (3, .int (x3 / 5)), (4, .int x4), (6, .int x6), (7, .int (x3 - x3 / 5 * 5))]) rfl ?_
          exact wk_md_layTried_89 ho a hC hQ rk_11 hk_11 x1 (x3 / 5) x4 x6 (x3 - x3 / 5 * 5) 0 (ms_a σ 32 j3 (x3 - x3 / 5 * 5)) h
        · have h := sv_if c7 h
          refine sv_aload_n hC dX6_layTried_60 2 rfl rfl ?_
          refine sv_get hC in_X6 0 rfl rfl 10 (by decide) q1066 rfl (v := .int (σ.1 10)) rfl dX6_layTried_61 ?_
          refine sv_iload hC dX6_layTried_64 1 rfl ?_
          refine sv_iconst hC (v := 1) dX6_layTried_66 (by decide) ?_
          refine sv_isub hC dX6_layTried_67 ?_
          obtain ⟨r8, er8, h⟩ := sv_ob h
          refine sv_pSi (nn := 2) hC (met_md_has hC.F (σ.1 10) ((x3 - x3 / 5 * 5) - 1) er8) (lw_S q1243 q1244 q62 q1245) (by decide +kernel) ⟨by decide, by decide⟩ ⟨rfl, rfl⟩ rfl rfl (Nat.le_of_ble_eq_true rfl) ⟨Nat.le_refl 0, Nat.le_refl 0⟩ dX6_layTried_68 ?_
          refine sv_if_eq hC (tgt := 88) dX6_layTried_71 (by decide) (fun c9 => ?_) (fun c9 => ?_)
          · have h := sv_it c9 h
            refine sv_iconst hC (v := 0) dX6_layTried_88 (by decide) ?_
            refine sv_loc [2, 3, 0, 4, 6, 1] (lvq := [(0, .ref ho), (1, .int x1), (3, .int (x3 / 5)), (4, .int x4), (6, .int x6), (7, .int (x3 - x3 / 5 * 5))]) rfl ?_
            exact wk_md_layTried_89 ho a hC hQ rk_11 hk_11 x1 (x3 / 5) x4 x6 (x3 - x3 / 5 * 5) 0 (ms_a σ 32 j3 (x3 - x3 / 5 * 5)) h
          · have h := sv_if c9 h
            refine sv_iload hC dX6_layTried_74 4 rfl ?_
            refine sv_iload hC dX6_layTried_76 1 rfl ?_
            obtain ⟨r10, er10, h⟩ := sv_ob h
            refine sv_pSi (nn := 2) hC (met_md_has hC.F x4 (x3 - x3 / 5 * 5) er10) (lw_S q1243 q1244 q62 q1245) (by decide +kernel) ⟨by decide, by decide⟩ ⟨rfl, rfl⟩ rfl rfl (Nat.le_of_ble_eq_true rfl) ⟨Nat.le_refl 0, Nat.le_refl 0⟩ dX6_layTried_78 ?_
            refine sv_if_ne hC (tgt := 88) dX6_layTried_81 (by decide) (fun c11 => ?_) (fun c11 => ?_)
            · have h := sv_if c11 h
              refine sv_iconst hC (v := 0) dX6_layTried_88 (by decide) ?_
              refine sv_loc [2, 3, 0, 4, 6, 1] (lvq := [(0, .ref ho), (1, .int x1), (3, .int (x3 / 5)), (4, .int x4), (6, .int x6), (7, .int (x3 - x3 / 5 * 5))]) rfl ?_
              exact wk_md_layTried_89 ho a hC hQ rk_11 hk_11 x1 (x3 / 5) x4 x6 (x3 - x3 / 5 * 5) 0 (ms_a σ 32 j3 (x3 - x3 / 5 * 5)) h
            · have h := sv_it c11 h
              refine sv_iconst hC (v := 1) dX6_layTried_84 (by decide) ?_
              refine sv_goto hC (tgt := 89) dX6_layTried_85 (by decide) ?_
              refine sv_loc [2, 3, 0, 4, 6, 1] (lvq := [(0, .ref ho), (1, .int x1), (3, .int (x3 / 5)), (4, .int x4), (6, .int x6), (7, .int (x3 - x3 / 5 * 5))]) rfl ?_
              exact wk_md_layTried_89 ho a hC hQ rk_11 hk_11 x1 (x3 / 5) x4 x6 (x3 - x3 / 5 * 5) 1 (ms_a σ 32 j3 (x3 - x3 / 5 * 5)) h
set_option maxHeartbeats 2000000 in
theorem wk_md_layTried_11 {Γ : sv_G} (ho : Nat) (a : Nat → Nat) (hC : sv_C Γ cX6_layTried 8 RX6 (some .boolean) rm_X6_layTried) {r0 : Int32 × MSt} (hQ : sv_RQ Γ (sv_pI r0.1 (MW (sg_dA Γ) ho a r0.2)) 0 0)  : ∀ (n : Nat) (x1 : Int32) (x3 : Int32) (x4 : Int32) (x5 : Int32) (x6 : Int32) (σ : MSt)  (h : md_layTried_11 n x1 x3 x4 x5 x6 σ = some r0), sv_V Γ (MW (sg_dA Γ) ho a σ) 0 0 11 [(0, .ref ho), (1, .int x1), (3, .int x3), (4, .int x4), (5, .int x5), (6, .int x6)] [] := by
  intro n
  induction n with
  | zero => intro x1 x3 x4 x5 x6 σ h; cases h
  | succ n ih => intro x1 x3 x4 x5 x6 σ h; exact wk_md_layTried_11b ho a hC hQ (md_layTried_11 n) ih x1 x3 x4 x5 x6 σ h
set_option maxHeartbeats 2000000 in
theorem wk_md_layTried {Γ : sv_G} (ho : Nat) (a : Nat → Nat) (hC : sv_C Γ cX6_layTried 8 RX6 (some .boolean) rm_X6_layTried) {r0 : Int32 × MSt} (hQ : sv_RQ Γ (sv_pI r0.1 (MW (sg_dA Γ) ho a r0.2)) 0 0) (x1 : Int32) (x2 : Int32) (σ : MSt) (h : md_layTried x1 x2 σ = some r0) : sv_V Γ (MW (sg_dA Γ) ho a σ) 0 0 0 [(0, .ref ho), (1, .int x1), (2, .int x2)] [] := by
  unfold md_layTried at h
  refine sv_iload_n hC dX6_layTried_0 2 rfl rfl ?_
  refine sv_istore_n hC dX6_layTried_1 rfl (by decide) (lvq := [(3, .int x2), (0, .ref ho), (1, .int x1), (2, .int x2)]) rfl ?_
  refine sv_iconst hC (v := 0) dX6_layTried_2 (by decide) ?_
  refine sv_istore hC dX6_layTried_3 (by decide) (lvq := [(4, .int 0), (3, .int x2), (0, .ref ho), (1, .int x1), (2, .int x2)]) rfl ?_
  refine sv_iconst hC (v := 1) dX6_layTried_5 (by decide) ?_
  refine sv_istore hC dX6_layTried_6 (by decide) (lvq := [(5, .int 1), (4, .int 0), (3, .int x2), (0, .ref ho), (1, .int x1), (2, .int x2)]) rfl ?_
  refine sv_iconst hC (v := 3) dX6_layTried_8 (by decide) ?_
  refine sv_istore hC dX6_layTried_9 (by decide) (lvq := [(6, .int 3), (5, .int 1), (4, .int 0), (3, .int x2), (0, .ref ho), (1, .int x1), (2, .int x2)]) rfl ?_
  refine sv_loc [4, 5, 3, 2, 1, 0] (lvq := [(0, .ref ho), (1, .int x1), (3, .int x2), (4, .int 0), (5, .int 1), (6, .int 3)]) rfl ?_
  exact wk_md_layTried_11 ho a hC hQ sv_FU x1 x2 0 1 3 σ h
set_option maxHeartbeats 2000000 in
theorem met_md_layTried {l : Launch} {s0 : State} {D : va_G} {dA : Nat → ClassId} (hF : sv_F s0 D dA) (ho : Nat) (a : Nat → Nat) (x1 : Int32) (x2 : Int32) (σ : MSt) {r0 : Int32 × MSt} (h : md_layTried x1 x2 σ = some r0) : sv_M l s0 D yX6_layTried cX6_layTried 8 (some .boolean) rm_X6_layTried [.ref ho, .int x1, .int x2] (MW dA ho a σ) (sv_pI r0.1 (MW dA ho a r0.2)) :=
  sv_met hF (by decide) (Nat.le_of_ble_eq_true rfl) (fun Γ hC hQ hmn e1 e2 e3 e4 => by
    subst e1 e2 e3 e4
    exact wk_md_layTried ho a hC hQ x1 x2 σ h)
set_option maxHeartbeats 2000000 in
theorem wk_md_back_31b {Γ : sv_G} (ho : Nat) (a : Nat → Nat) (hC : sv_C Γ cX6_back 3 RX6 none rm_X6_back) {r0 : MSt} (hQ : sv_RQ Γ (sv_pV (MW (sg_dA Γ) ho a r0)) 0 0)  (rk_31 : Int32 → Int32 → MSt → Option MSt) (hk_31 : ∀ (x1 : Int32) (x2 : Int32) (σ : MSt), rk_31 x1 x2 σ = some r0 → sv_V Γ (MW (sg_dA Γ) ho a σ) 0 0 31 [(0, .ref ho), (1, .int x1), (2, .int x2)] []) (x1 : Int32) (x2 : Int32) (σ : MSt)  (h : md_back_31b rk_31 x1 x2 σ = some r0) : sv_V Γ (MW (sg_dA Γ) ho a σ) 0 0 31 [(0, .ref ho), (1, .int x1), (2, .int x2)] [] := by
  unfold md_back_31b at h
  refine sv_iload_n hC dX6_back_31 2 rfl rfl ?_
  refine sv_bipush hC (v := 16) dX6_back_32 (by decide) ?_
  refine sv_icmp_ge hC (tgt := 60) dX6_back_34 (by decide) (fun c4 => ?_) (fun c4 => ?_)
  · have h := sv_it c4 h
    exact sv_vret hC hQ dX6_back_60 (by have e := Option.some.inj h; subst e; exact ⟨rfl, rfl⟩)
  · have h := sv_if c4 h
    refine sv_aload_n hC dX6_back_37 0 rfl rfl ?_
    refine sv_get hC in_X6 0 rfl rfl 34 (by decide) q1090 rfl (v := .ref (a 34)) rfl dX6_back_38 ?_
    refine sv_iload_n hC dX6_back_41 2 rfl rfl ?_
    refine sv_aload_n hC dX6_back_42 0 rfl rfl ?_
    refine sv_get hC in_X6 0 rfl rfl 38 (by decide) q1094 rfl (v := .ref (a 38)) rfl dX6_back_43 ?_
    refine sv_bipush hC (v := 16) dX6_back_46 (by decide) ?_
    refine sv_iload_n hC dX6_back_48 1 rfl rfl ?_
    refine sv_imul hC dX6_back_49 ?_
    refine sv_iload_n hC dX6_back_50 2 rfl rfl ?_
    refine sv_iadd hC dX6_back_51 ?_
    obtain ⟨j5, ej5, h⟩ := sv_ob h
    refine sv_iald hC 18 (f := σ.2 38) rfl rfl (j := j5) ej5 dX6_back_52 ?_
    obtain ⟨j6, ej6, h⟩ := sv_ob h
    refine sv_iast hC 14 (f := σ.2 34) rfl rfl (j := j6) ej6 (Xq := MW (sg_dA Γ) ho a (ms_a σ 34 j6 (σ.2 38 j5))) rfl dX6_back_53 ?_
    refine sv_iinc hC (v := x2 + 1) dX6_back_54 2 rfl rfl (by decide) (lvq := [(2, .int (x2 + 1)), (0, .ref ho), (1, .int x1)]) rfl ?_
    refine sv_goto hC (tgt := 31) dX6_back_57 (by decide) ?_
    refine sv_loc [1, 2, 0] (lvq := [(0, .ref ho), (1, .int x1), (2, .int (x2 + 1))]) rfl ?_
    exact hk_31 x1 (x2 + 1) (ms_a σ 34 j6 (σ.2 38 j5)) h
set_option maxHeartbeats 2000000 in
theorem wk_md_back_31 {Γ : sv_G} (ho : Nat) (a : Nat → Nat) (hC : sv_C Γ cX6_back 3 RX6 none rm_X6_back) {r0 : MSt} (hQ : sv_RQ Γ (sv_pV (MW (sg_dA Γ) ho a r0)) 0 0)  : ∀ (n : Nat) (x1 : Int32) (x2 : Int32) (σ : MSt)  (h : md_back_31 n x1 x2 σ = some r0), sv_V Γ (MW (sg_dA Γ) ho a σ) 0 0 31 [(0, .ref ho), (1, .int x1), (2, .int x2)] [] := by
  intro n
  induction n with
  | zero => intro x1 x2 σ h; cases h
  | succ n ih => intro x1 x2 σ h; exact wk_md_back_31b ho a hC hQ (md_back_31 n) ih x1 x2 σ h
set_option maxHeartbeats 2000000 in
theorem wk_md_back_2b {Γ : sv_G} (ho : Nat) (a : Nat → Nat) (hC : sv_C Γ cX6_back 3 RX6 none rm_X6_back) {r0 : MSt} (hQ : sv_RQ Γ (sv_pV (MW (sg_dA Γ) ho a r0)) 0 0)  (rk_2 : Int32 → Int32 → MSt → Option MSt) (hk_2 : ∀ (x1 : Int32) (x2 : Int32) (σ : MSt), rk_2 x1 x2 σ = some r0 → sv_V Γ (MW (sg_dA Γ) ho a σ) 0 0 2 [(0, .ref ho), (1, .int x1), (2, .int x2)] []) (x1 : Int32) (x2 : Int32) (σ : MSt)  (h : md_back_2b rk_2 x1 x2 σ = some r0) : sv_V Γ (MW (sg_dA Γ) ho a σ) 0 0 2 [(0, .ref ho), (1, .int x1), (2, .int x2)] [] := by
  unfold md_back_2b at h
  refine sv_iload_n hC dX6_back_2 2 rfl rfl ?_
  refine sv_iconst hC (v := 4) dX6_back_3 (by decide) ?_
  refine sv_icmp_ge hC (tgt := 29) dX6_back_4 (by decide) (fun c1 => ?_) (fun c1 => ?_)
  · have h := sv_it c1 h
    refine sv_iconst hC (v := 0) dX6_back_29 (by decide) ?_
    refine sv_istore_n hC dX6_back_30 rfl (by decide) (lvq := [(2, .int 0), (0, .ref ho), (1, .int x1)]) rfl ?_
    refine sv_loc [1, 2, 0] (lvq := [(0, .ref ho), (1, .int x1), (2, .int 0)]) rfl ?_
    exact wk_md_back_31 ho a hC hQ sv_FU x1 0 σ h
  · have h := sv_if c1 h
    refine sv_aload_n hC dX6_back_7 0 rfl rfl ?_
    refine sv_get hC in_X6 0 rfl rfl 33 (by decide) q1089 rfl (v := .ref (a 33)) rfl dX6_back_8 ?_
    refine sv_iload_n hC dX6_back_11 2 rfl rfl ?_
    refine sv_aload_n hC dX6_back_12 0 rfl rfl ?_
    refine sv_get hC in_X6 0 rfl rfl 37 (by decide) q1093 rfl (v := .ref (a 37)) rfl dX6_back_13 ?_
    refine sv_iconst hC (v := 4) dX6_back_16 (by decide) ?_
    refine sv_iload_n hC dX6_back_17 1 rfl rfl ?_
    refine sv_imul hC dX6_back_18 ?_
    refine sv_iload_n hC dX6_back_19 2 rfl rfl ?_
    refine sv_iadd hC dX6_back_20 ?_
    obtain ⟨j2, ej2, h⟩ := sv_ob h
    refine sv_iald hC 17 (f := σ.2 37) rfl rfl (j := j2) ej2 dX6_back_21 ?_
    obtain ⟨j3, ej3, h⟩ := sv_ob h
    refine sv_iast hC 13 (f := σ.2 33) rfl rfl (j := j3) ej3 (Xq := MW (sg_dA Γ) ho a (ms_a σ 33 j3 (σ.2 37 j2))) rfl dX6_back_22 ?_
    refine sv_iinc hC (v := x2 + 1) dX6_back_23 2 rfl rfl (by decide) (lvq := [(2, .int (x2 + 1)), (0, .ref ho), (1, .int x1)]) rfl ?_
    refine sv_goto hC (tgt := 2) dX6_back_26 (by decide) ?_
    refine sv_loc [1, 2, 0] (lvq := [(0, .ref ho), (1, .int x1), (2, .int (x2 + 1))]) rfl ?_
    exact hk_2 x1 (x2 + 1) (ms_a σ 33 j3 (σ.2 37 j2)) h
set_option maxHeartbeats 2000000 in
theorem wk_md_back_2 {Γ : sv_G} (ho : Nat) (a : Nat → Nat) (hC : sv_C Γ cX6_back 3 RX6 none rm_X6_back) {r0 : MSt} (hQ : sv_RQ Γ (sv_pV (MW (sg_dA Γ) ho a r0)) 0 0)  : ∀ (n : Nat) (x1 : Int32) (x2 : Int32) (σ : MSt)  (h : md_back_2 n x1 x2 σ = some r0), sv_V Γ (MW (sg_dA Γ) ho a σ) 0 0 2 [(0, .ref ho), (1, .int x1), (2, .int x2)] [] := by
  intro n
  induction n with
  | zero => intro x1 x2 σ h; cases h
  | succ n ih => intro x1 x2 σ h; exact wk_md_back_2b ho a hC hQ (md_back_2 n) ih x1 x2 σ h
set_option maxHeartbeats 2000000 in
theorem wk_md_back {Γ : sv_G} (ho : Nat) (a : Nat → Nat) (hC : sv_C Γ cX6_back 3 RX6 none rm_X6_back) {r0 : MSt} (hQ : sv_RQ Γ (sv_pV (MW (sg_dA Γ) ho a r0)) 0 0) (x1 : Int32) (σ : MSt) (h : md_back x1 σ = some r0) : sv_V Γ (MW (sg_dA Γ) ho a σ) 0 0 0 [(0, .ref ho), (1, .int x1)] [] := by
  unfold md_back at h
  refine sv_iconst hC (v := 0) dX6_back_0 (by decide) ?_
  refine sv_istore_n hC dX6_back_1 rfl (by decide) (lvq := [(2, .int 0), (0, .ref ho), (1, .int x1)]) rfl ?_
  refine sv_loc [1, 2, 0] (lvq := [(0, .ref ho), (1, .int x1), (2, .int 0)]) rfl ?_
  exact wk_md_back_2 ho a hC hQ sv_FU x1 0 σ h
set_option maxHeartbeats 2000000 in
theorem met_md_back {l : Launch} {s0 : State} {D : va_G} {dA : Nat → ClassId} (hF : sv_F s0 D dA) (ho : Nat) (a : Nat → Nat) (x1 : Int32) (σ : MSt) {r0 : MSt} (h : md_back x1 σ = some r0) : sv_M l s0 D yX6_back cX6_back 3 none rm_X6_back [.ref ho, .int x1] (MW dA ho a σ) (sv_pV (MW dA ho a r0)) :=
  sv_met hF (by decide) (Nat.le_of_ble_eq_true rfl) (fun Γ hC hQ hmn e1 e2 e3 e4 => by
    subst e1 e2 e3 e4
    exact wk_md_back ho a hC hQ x1 σ h)
