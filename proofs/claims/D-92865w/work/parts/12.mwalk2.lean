/-! THE MODEL's METHODS: their walks (printed by gen_model.py) -/
set_option maxRecDepth 100000
set_option maxHeartbeats 2000000 in
theorem wk_md_leastSecond_10b {Γ : sv_G} (ho : Nat) (a : Nat → Nat) (hC : sv_C Γ cX6_leastSecond 4 RX6 (some .int) rm_X6_leastSecond) {r0 : Int32 × MSt} (hQ : sv_RQ Γ (sv_pI r0.1 (MW (sg_dA Γ) ho a r0.2)) 0 0)  (rk_10 : Int32 → Int32 → Int32 → MSt → Option (Int32 × MSt)) (hk_10 : ∀ (x1 : Int32) (x2 : Int32) (x3 : Int32) (σ : MSt), rk_10 x1 x2 x3 σ = some r0 → sv_V Γ (MW (sg_dA Γ) ho a σ) 0 0 10 [(0, .ref ho), (1, .int x1), (2, .int x2), (3, .int x3)] []) (x1 : Int32) (x2 : Int32) (x3 : Int32) (σ : MSt)  (h : md_leastSecond_10b rk_10 x1 x2 x3 σ = some r0) : sv_V Γ (MW (sg_dA Γ) ho a σ) 0 0 10 [(0, .ref ho), (1, .int x1), (2, .int x2), (3, .int x3)] [] := by
  unfold md_leastSecond_10b at h
  refine sv_iload_n hC dX6_leastSecond_10 3 rfl rfl ?_
  refine sv_sipush hC (v := 625) dX6_leastSecond_11 (by decide) ?_
  refine sv_icmp_ge hC (tgt := 59) dX6_leastSecond_14 (by decide) (fun c2 => ?_) (fun c2 => ?_)
  · have h := sv_it c2 h
    refine sv_iload_n hC dX6_leastSecond_59 2 rfl rfl ?_
    exact sv_iret hC hQ dX6_leastSecond_60 (by have e := Option.some.inj h; subst e; exact ⟨rfl, rfl⟩)
  · have h := sv_if c2 h
    refine sv_aload_n hC dX6_leastSecond_17 0 rfl rfl ?_
    refine sv_iconst hC (v := 1) dX6_leastSecond_18 (by decide) ?_
    refine sv_iload_n hC dX6_leastSecond_19 3 rfl rfl ?_
    obtain ⟨p3, ep3, h⟩ := sv_ob h
    refine sv_wVi (nn := 2) hC (met_md_layTried hC.F ho a 1 x3 σ ep3) 0 0 rfl rfl rfl (lw_V q1349 q1351 qs46 q62 q1352) (by decide +kernel) ⟨by decide, by decide⟩ ⟨rfl, rfl⟩ rfl rfl (Nat.le_of_ble_eq_true rfl) ⟨Nat.le_refl 0, Nat.le_refl 0⟩ dX6_leastSecond_20 ?_
    refine sv_if_eq hC (tgt := 53) dX6_leastSecond_23 (by decide) (fun c4 => ?_) (fun c4 => ?_)
    · have h := sv_it c4 h
      refine sv_iinc hC (v := x3 + 1) dX6_leastSecond_53 3 rfl rfl (by decide) (lvq := [(3, .int (x3 + 1)), (0, .ref ho), (1, .int x1), (2, .int x2)]) rfl ?_
      refine sv_goto hC (tgt := 10) dX6_leastSecond_56 (by decide) ?_
      refine sv_loc [1, 2, 3, 0] (lvq := [(0, .ref ho), (1, .int x1), (2, .int x2), (3, .int (x3 + 1))]) rfl ?_
      exact hk_10 x1 x2 (x3 + 1) p3.2 h
    · have h := sv_if c4 h
      refine sv_aload_n hC dX6_leastSecond_26 0 rfl rfl ?_
      refine sv_iconst hC (v := 1) dX6_leastSecond_27 (by decide) ?_
      obtain ⟨s5, es5, h⟩ := sv_ob h
      refine sv_wVv (nn := 1) hC (met_md_back hC.F ho a 1 p3.2 es5) 0 0 rfl rfl rfl (lw_V q1353 q1355 qs47 q62 q1356) (by decide +kernel) ⟨by decide, by decide⟩ ⟨rfl, rfl⟩ rfl rfl (Nat.le_of_ble_eq_true rfl) ⟨Nat.le_refl 0, Nat.le_refl 0⟩ dX6_leastSecond_28 ?_
      refine sv_aload_n hC dX6_leastSecond_31 0 rfl rfl ?_
      refine sv_iload_n hC dX6_leastSecond_32 1 rfl rfl ?_
      obtain ⟨s6, es6, h⟩ := sv_ob h
      refine sv_wVv (nn := 1) hC (met_md_goDay hC.F ho a x1 s5 es6) 0 0 rfl rfl rfl (lw_V q1292 q1294 qs37 q62 q1295) (by decide +kernel) ⟨by decide, by decide⟩ ⟨rfl, rfl⟩ rfl rfl (Nat.le_of_ble_eq_true rfl) ⟨Nat.le_refl 0, Nat.le_refl 0⟩ dX6_leastSecond_33 ?_
      refine sv_aload_n hC dX6_leastSecond_36 0 rfl rfl ?_
      obtain ⟨r7, er7, h⟩ := sv_ob h
      refine sv_wVi (nn := 0) hC (met_md_eatenAll hC.F ho a s6 er7) 0 0 rfl rfl rfl (lw_V q1316 q1318 qs42 q62 q1319) (by decide +kernel) ⟨by decide, by decide⟩ ⟨rfl, rfl⟩ rfl rfl (Nat.le_of_ble_eq_true rfl) ⟨Nat.le_refl 0, Nat.le_refl 0⟩ dX6_leastSecond_37 ?_
      refine sv_iload_n hC dX6_leastSecond_40 2 rfl rfl ?_
      refine sv_icmp_ge hC (tgt := 51) dX6_leastSecond_41 (by decide) (fun c8 => ?_) (fun c8 => ?_)
      · have h := sv_it c8 h
        refine sv_iload_n hC dX6_leastSecond_51 2 rfl rfl ?_
        refine sv_istore_n hC dX6_leastSecond_52 rfl (by decide) (lvq := [(2, .int x2), (0, .ref ho), (1, .int x1), (3, .int x3)]) rfl ?_
        refine sv_iinc hC (v := x3 + 1) dX6_leastSecond_53 3 rfl rfl (by decide) (lvq := [(3, .int (x3 + 1)), (2, .int x2), (0, .ref ho), (1, .int x1)]) rfl ?_
        refine sv_goto hC (tgt := 10) dX6_leastSecond_56 (by decide) ?_
        refine sv_loc [2, 3, 1, 0] (lvq := [(0, .ref ho), (1, .int x1), (2, .int x2), (3, .int (x3 + 1))]) rfl ?_
        exact hk_10 x1 x2 (x3 + 1) s6 h
      · have h := sv_if c8 h
        refine sv_aload_n hC dX6_leastSecond_44 0 rfl rfl ?_
        obtain ⟨r9, er9, h⟩ := sv_ob h
        refine sv_wVi (nn := 0) hC (met_md_eatenAll hC.F ho a s6 er9) 0 0 rfl rfl rfl (lw_V q1316 q1318 qs42 q62 q1319) (by decide +kernel) ⟨by decide, by decide⟩ ⟨rfl, rfl⟩ rfl rfl (Nat.le_of_ble_eq_true rfl) ⟨Nat.le_refl 0, Nat.le_refl 0⟩ dX6_leastSecond_45 ?_
        refine sv_goto hC (tgt := 52) dX6_leastSecond_48 (by decide) ?_
        refine sv_istore_n hC dX6_leastSecond_52 rfl (by decide) (lvq := [(2, .int r9), (0, .ref ho), (1, .int x1), (3, .int x3)]) rfl ?_
        refine sv_iinc hC (v := x3 + 1) dX6_leastSecond_53 3 rfl rfl (by decide) (lvq := [(3, .int (x3 + 1)), (2, .int r9), (0, .ref ho), (1, .int x1)]) rfl ?_
        refine sv_goto hC (tgt := 10) dX6_leastSecond_56 (by decide) ?_
        refine sv_loc [2, 3, 1, 0] (lvq := [(0, .ref ho), (1, .int x1), (2, .int r9), (3, .int (x3 + 1))]) rfl ?_
        exact hk_10 x1 r9 (x3 + 1) s6 h
set_option maxHeartbeats 2000000 in
theorem wk_md_leastSecond_10 {Γ : sv_G} (ho : Nat) (a : Nat → Nat) (hC : sv_C Γ cX6_leastSecond 4 RX6 (some .int) rm_X6_leastSecond) {r0 : Int32 × MSt} (hQ : sv_RQ Γ (sv_pI r0.1 (MW (sg_dA Γ) ho a r0.2)) 0 0)  : ∀ (n : Nat) (x1 : Int32) (x2 : Int32) (x3 : Int32) (σ : MSt)  (h : md_leastSecond_10 n x1 x2 x3 σ = some r0), sv_V Γ (MW (sg_dA Γ) ho a σ) 0 0 10 [(0, .ref ho), (1, .int x1), (2, .int x2), (3, .int x3)] [] := by
  intro n
  induction n with
  | zero => intro x1 x2 x3 σ h; cases h
  | succ n ih => intro x1 x2 x3 σ h; exact wk_md_leastSecond_10b ho a hC hQ (md_leastSecond_10 n) ih x1 x2 x3 σ h
set_option maxHeartbeats 2000000 in
theorem wk_md_leastSecond {Γ : sv_G} (ho : Nat) (a : Nat → Nat) (hC : sv_C Γ cX6_leastSecond 4 RX6 (some .int) rm_X6_leastSecond) {r0 : Int32 × MSt} (hQ : sv_RQ Γ (sv_pI r0.1 (MW (sg_dA Γ) ho a r0.2)) 0 0) (x1 : Int32) (σ : MSt) (h : md_leastSecond x1 σ = some r0) : sv_V Γ (MW (sg_dA Γ) ho a σ) 0 0 0 [(0, .ref ho), (1, .int x1)] [] := by
  unfold md_leastSecond at h
  refine sv_aload_n hC dX6_leastSecond_0 0 rfl rfl ?_
  refine sv_iconst hC (v := 1) dX6_leastSecond_1 (by decide) ?_
  obtain ⟨s1, es1, h⟩ := sv_ob h
  refine sv_wVv (nn := 1) hC (met_md_keep hC.F ho a 1 σ es1) 0 0 rfl rfl rfl (lw_V q1345 q1347 qs45 q62 q1348) (by decide +kernel) ⟨by decide, by decide⟩ ⟨rfl, rfl⟩ rfl rfl (Nat.le_of_ble_eq_true rfl) ⟨Nat.le_refl 0, Nat.le_refl 0⟩ dX6_leastSecond_2 ?_
  refine sv_ldc hC dX6_leastSecond_5 q1055 ?_
  refine sv_istore_n hC dX6_leastSecond_7 rfl (by decide) (lvq := [(2, .int 268435456), (0, .ref ho), (1, .int x1)]) rfl ?_
  refine sv_iconst hC (v := 0) dX6_leastSecond_8 (by decide) ?_
  refine sv_istore_n hC dX6_leastSecond_9 rfl (by decide) (lvq := [(3, .int 0), (2, .int 268435456), (0, .ref ho), (1, .int x1)]) rfl ?_
  refine sv_loc [2, 3, 1, 0] (lvq := [(0, .ref ho), (1, .int x1), (2, .int 268435456), (3, .int 0)]) rfl ?_
  exact wk_md_leastSecond_10 ho a hC hQ sv_FU x1 268435456 0 s1 h
set_option maxHeartbeats 2000000 in
theorem met_md_leastSecond {l : Launch} {s0 : State} {D : va_G} {dA : Nat → ClassId} (hF : sv_F s0 D dA) (ho : Nat) (a : Nat → Nat) (x1 : Int32) (σ : MSt) {r0 : Int32 × MSt} (h : md_leastSecond x1 σ = some r0) : sv_M l s0 D yX6_leastSecond cX6_leastSecond 4 (some .int) rm_X6_leastSecond [.ref ho, .int x1] (MW dA ho a σ) (sv_pI r0.1 (MW dA ho a r0.2)) :=
  sv_met hF (by decide) (Nat.le_of_ble_eq_true rfl) (fun Γ hC hQ hmn e1 e2 e3 e4 => by
    subst e1 e2 e3 e4
    exact wk_md_leastSecond ho a hC hQ x1 σ h)
set_option maxHeartbeats 2000000 in
theorem wk_md_best_151 {Γ : sv_G} (ho : Nat) (a : Nat → Nat) (hC : sv_C Γ cX6_best 9 RX6 (some .int) rm_X6_best) {r0 : Int32 × MSt} (hQ : sv_RQ Γ (sv_pI r0.1 (MW (sg_dA Γ) ho a r0.2)) 0 0) (rk_81 : Int32 → Int32 → Int32 → Int32 → Int32 → Int32 → MSt → Option (Int32 × MSt)) (hk_81 : ∀ (x1 : Int32) (x2 : Int32) (x3 : Int32) (x4 : Int32) (x5 : Int32) (x6 : Int32) (σ : MSt), rk_81 x1 x2 x3 x4 x5 x6 σ = some r0 → sv_V Γ (MW (sg_dA Γ) ho a σ) 0 0 81 [(0, .ref ho), (1, .int x1), (2, .int x2), (3, .int x3), (4, .int x4), (5, .int x5), (6, .int x6)] []) (x1 : Int32) (x2 : Int32) (x3 : Int32) (x4 : Int32) (x6 : Int32) (x8 : Int32) (t0 : Int32) (σ : MSt)  (h : md_best_151 rk_81 x1 x2 x3 x4 x6 x8 t0 σ = some r0) : sv_V Γ (MW (sg_dA Γ) ho a σ) 0 0 151 [(0, .ref ho), (1, .int x1), (2, .int x2), (3, .int x3), (4, .int x4), (6, .int x6), (8, .int x8)] [.int t0] := by
  unfold md_best_151 at h
  refine sv_istore hC dX6_best_151 (by decide) (lvq := [(5, .int t0), (0, .ref ho), (1, .int x1), (2, .int x2), (3, .int x3), (4, .int x4), (6, .int x6), (8, .int x8)]) rfl ?_
  refine sv_iload hC dX6_best_153 7 rfl ?_
  refine sv_iload hC dX6_best_155 5 rfl ?_
  refine sv_icmp_ge hC (tgt := 165) dX6_best_157 (by decide) (fun c23 => ?_) (fun c23 => ?_)
  · have h := sv_it c23 h
    refine sv_iload hC dX6_best_165 5 rfl ?_
    refine sv_istore hC dX6_best_167 (by decide) (lvq := [(4, .int x4), (5, .int t0), (0, .ref ho), (1, .int x1), (2, .int x2), (3, .int x3), (6, .int x6), (8, .int x8)]) rfl ?_
    refine sv_iinc hC (v := x6 + 1) dX6_best_169 6 rfl rfl (by decide) (lvq := [(6, .int (x6 + 1)), (4, .int x4), (5, .int t0), (0, .ref ho), (1, .int x1), (2, .int x2), (3, .int x3), (8, .int x8)]) rfl ?_
    refine sv_goto hC (tgt := 81) dX6_best_172 (by decide) ?_
    refine sv_loc [3, 4, 5, 6, 1, 2, 0] (lvq := [(0, .ref ho), (1, .int x1), (2, .int x2), (3, .int x3), (4, .int x4), (5, .int t0), (6, .int (x6 + 1))]) rfl ?_
    exact hk_81 x1 x2 x3 x4 t0 (x6 + 1) σ h
  · have h := sv_if c23 h
    refine sv_iload hC dX6_best_160 7 rfl ?_
    refine sv_goto hC (tgt := 167) dX6_best_162 (by decide) ?_
    refine sv_istore hC dX6_best_167 (by decide) (lvq := [(4, .int x8), (5, .int t0), (0, .ref ho), (1, .int x1), (2, .int x2), (3, .int x3), (6, .int x6), (8, .int x8)]) rfl ?_
    refine sv_iinc hC (v := x6 + 1) dX6_best_169 6 rfl rfl (by decide) (lvq := [(6, .int (x6 + 1)), (4, .int x8), (5, .int t0), (0, .ref ho), (1, .int x1), (2, .int x2), (3, .int x3), (8, .int x8)]) rfl ?_
    refine sv_goto hC (tgt := 81) dX6_best_172 (by decide) ?_
    refine sv_loc [3, 4, 5, 6, 1, 2, 0] (lvq := [(0, .ref ho), (1, .int x1), (2, .int x2), (3, .int x3), (4, .int x8), (5, .int t0), (6, .int (x6 + 1))]) rfl ?_
    exact hk_81 x1 x2 x3 x8 t0 (x6 + 1) σ h
set_option maxHeartbeats 2000000 in
theorem wk_md_best_135 {Γ : sv_G} (ho : Nat) (a : Nat → Nat) (hC : sv_C Γ cX6_best 9 RX6 (some .int) rm_X6_best) {r0 : Int32 × MSt} (hQ : sv_RQ Γ (sv_pI r0.1 (MW (sg_dA Γ) ho a r0.2)) 0 0) (rk_81 : Int32 → Int32 → Int32 → Int32 → Int32 → Int32 → MSt → Option (Int32 × MSt)) (hk_81 : ∀ (x1 : Int32) (x2 : Int32) (x3 : Int32) (x4 : Int32) (x5 : Int32) (x6 : Int32) (σ : MSt), rk_81 x1 x2 x3 x4 x5 x6 σ = some r0 → sv_V Γ (MW (sg_dA Γ) ho a σ) 0 0 81 [(0, .ref ho), (1, .int x1), (2, .int x2), (3, .int x3), (4, .int x4), (5, .int x5), (6, .int x6)] []) (x1 : Int32) (x2 : Int32) (x3 : Int32) (x4 : Int32) (x5 : Int32) (x6 : Int32) (t0 : Int32) (σ : MSt)  (h : md_best_135 rk_81 x1 x2 x3 x4 x5 x6 t0 σ = some r0) : sv_V Γ (MW (sg_dA Γ) ho a σ) 0 0 135 [(0, .ref ho), (1, .int x1), (2, .int x2), (3, .int x3), (4, .int x4), (5, .int x5), (6, .int x6)] [.int t0] := by
  unfold md_best_135 at h
  refine sv_istore hC dX6_best_135 (by decide) (lvq := [(8, .int t0), (0, .ref ho), (1, .int x1), (2, .int x2), (3, .int x3), (4, .int x4), (5, .int x5), (6, .int x6)]) rfl ?_
  refine sv_iload hC dX6_best_137 0 rfl ?_
  refine sv_iload hC dX6_best_139 5 rfl ?_
  refine sv_icmp_ge hC (tgt := 149) dX6_best_141 (by decide) (fun c22 => ?_) (fun c22 => ?_)
  · have h := sv_it c22 h
    refine sv_iload hC dX6_best_149 6 rfl ?_
    refine sv_loc [1, 2, 3, 4, 5, 7, 0] (lvq := [(0, .ref ho), (1, .int x1), (2, .int x2), (3, .int x3), (4, .int x4), (6, .int x6), (8, .int t0)]) rfl ?_
    exact wk_md_best_151 ho a hC hQ rk_81 hk_81 x1 x2 x3 x4 x6 t0 x5 σ h
  · have h := sv_if c22 h
    refine sv_iload hC dX6_best_144 7 rfl ?_
    refine sv_goto hC (tgt := 151) dX6_best_146 (by decide) ?_
    refine sv_loc [1, 2, 3, 4, 5, 7, 0] (lvq := [(0, .ref ho), (1, .int x1), (2, .int x2), (3, .int x3), (4, .int x4), (6, .int x6), (8, .int t0)]) rfl ?_
    exact wk_md_best_151 ho a hC hQ rk_81 hk_81 x1 x2 x3 x4 x6 t0 x6 σ h
set_option maxHeartbeats 2000000 in
theorem wk_md_best_81b {Γ : sv_G} (ho : Nat) (a : Nat → Nat) (hC : sv_C Γ cX6_best 9 RX6 (some .int) rm_X6_best) {r0 : Int32 × MSt} (hQ : sv_RQ Γ (sv_pI r0.1 (MW (sg_dA Γ) ho a r0.2)) 0 0)  (rk_81 : Int32 → Int32 → Int32 → Int32 → Int32 → Int32 → MSt → Option (Int32 × MSt)) (hk_81 : ∀ (x1 : Int32) (x2 : Int32) (x3 : Int32) (x4 : Int32) (x5 : Int32) (x6 : Int32) (σ : MSt), rk_81 x1 x2 x3 x4 x5 x6 σ = some r0 → sv_V Γ (MW (sg_dA Γ) ho a σ) 0 0 81 [(0, .ref ho), (1, .int x1), (2, .int x2), (3, .int x3), (4, .int x4), (5, .int x5), (6, .int x6)] []) (x1 : Int32) (x2 : Int32) (x3 : Int32) (x4 : Int32) (x5 : Int32) (x6 : Int32) (σ : MSt)  (h : md_best_81b rk_81 x1 x2 x3 x4 x5 x6 σ = some r0) : sv_V Γ (MW (sg_dA Γ) ho a σ) 0 0 81 [(0, .ref ho), (1, .int x1), (2, .int x2), (3, .int x3), (4, .int x4), (5, .int x5), (6, .int x6)] [] := by
  unfold md_best_81b at h
  refine sv_iload hC dX6_best_81 6 rfl ?_
  refine sv_sipush hC (v := 625) dX6_best_83 (by decide) ?_
  refine sv_icmp_ge hC (tgt := 175) dX6_best_86 (by decide) (fun c11 => ?_) (fun c11 => ?_)
  · have h := sv_it c11 h
    refine sv_aload_n hC dX6_best_175 0 rfl rfl ?_
    refine sv_iconst hC (v := 0) dX6_best_176 (by decide) ?_
    refine sv_iload hC dX6_best_177 5 rfl ?_
    obtain ⟨p12, ep12, h⟩ := sv_ob h
    refine sv_wVi (nn := 2) hC (met_md_layTried hC.F ho a 0 x5 σ ep12) 0 0 rfl rfl rfl (lw_V q1349 q1351 qs46 q62 q1352) (by decide +kernel) ⟨by decide, by decide⟩ ⟨rfl, rfl⟩ rfl rfl (Nat.le_of_ble_eq_true rfl) ⟨Nat.le_refl 0, Nat.le_refl 0⟩ dX6_best_179 ?_
    refine sv_pop hC dX6_best_182 rfl ?_
    refine sv_iload_n hC dX6_best_183 3 rfl rfl ?_
    refine sv_iconst hC (v := (-1)) dX6_best_184 (by decide) ?_
    refine sv_icmp_ne hC (tgt := 193) dX6_best_185 (by decide) (fun c13 => ?_) (fun c13 => ?_)
    · have h := sv_if c13 h
      refine sv_aload_n hC dX6_best_193 0 rfl rfl ?_
      refine sv_get hC in_X6 0 rfl rfl 32 (by decide) q1088 rfl (v := .ref (a 32)) rfl dX6_best_194 ?_
      refine sv_iload_n hC dX6_best_197 3 rfl rfl ?_
      obtain ⟨j14, ej14, h⟩ := sv_ob h
      refine sv_iald hC 12 (f := p12.2.2 32) rfl rfl (j := j14) ej14 dX6_best_198 ?_
      refine sv_iconst hC (v := 1) dX6_best_199 (by decide) ?_
      refine sv_isub hC dX6_best_200 ?_
      exact sv_iret hC hQ dX6_best_201 (by have e := Option.some.inj h; subst e; exact ⟨rfl, rfl⟩)
    · have h := sv_it c13 h
      refine sv_iload hC dX6_best_188 4 rfl ?_
      refine sv_goto hC (tgt := 201) dX6_best_190 (by decide) ?_
      exact sv_iret hC hQ dX6_best_201 (by have e := Option.some.inj h; subst e; exact ⟨rfl, rfl⟩)
  · have h := sv_if c11 h
    refine sv_aload_n hC dX6_best_89 0 rfl rfl ?_
    refine sv_iconst hC (v := 0) dX6_best_90 (by decide) ?_
    refine sv_iload hC dX6_best_91 6 rfl ?_
    obtain ⟨p15, ep15, h⟩ := sv_ob h
    refine sv_wVi (nn := 2) hC (met_md_layTried hC.F ho a 0 x6 σ ep15) 0 0 rfl rfl rfl (lw_V q1349 q1351 qs46 q62 q1352) (by decide +kernel) ⟨by decide, by decide⟩ ⟨rfl, rfl⟩ rfl rfl (Nat.le_of_ble_eq_true rfl) ⟨Nat.le_refl 0, Nat.le_refl 0⟩ dX6_best_93 ?_
    refine sv_if_eq hC (tgt := 169) dX6_best_96 (by decide) (fun c16 => ?_) (fun c16 => ?_)
    · have h := sv_it c16 h
      refine sv_iinc hC (v := x6 + 1) dX6_best_169 6 rfl rfl (by decide) (lvq := [(6, .int (x6 + 1)), (0, .ref ho), (1, .int x1), (2, .int x2), (3, .int x3), (4, .int x4), (5, .int x5)]) rfl ?_
      refine sv_goto hC (tgt := 81) dX6_best_172 (by decide) ?_
      refine sv_loc [1, 2, 3, 4, 5, 6, 0] (lvq := [(0, .ref ho), (1, .int x1), (2, .int x2), (3, .int x3), (4, .int x4), (5, .int x5), (6, .int (x6 + 1))]) rfl ?_
      exact hk_81 x1 x2 x3 x4 x5 (x6 + 1) p15.2 h
    · have h := sv_if c16 h
      refine sv_aload_n hC dX6_best_99 0 rfl rfl ?_
      refine sv_iconst hC (v := 0) dX6_best_100 (by decide) ?_
      obtain ⟨s17, es17, h⟩ := sv_ob h
      refine sv_wVv (nn := 1) hC (met_md_back hC.F ho a 0 p15.2 es17) 0 0 rfl rfl rfl (lw_V q1353 q1355 qs47 q62 q1356) (by decide +kernel) ⟨by decide, by decide⟩ ⟨rfl, rfl⟩ rfl rfl (Nat.le_of_ble_eq_true rfl) ⟨Nat.le_refl 0, Nat.le_refl 0⟩ dX6_best_101 ?_
      refine sv_aload_n hC dX6_best_104 0 rfl rfl ?_
      refine sv_iload_n hC dX6_best_105 1 rfl rfl ?_
      obtain ⟨s18, es18, h⟩ := sv_ob h
      refine sv_wVv (nn := 1) hC (met_md_goDay hC.F ho a x1 s17 es18) 0 0 rfl rfl rfl (lw_V q1292 q1294 qs37 q62 q1295) (by decide +kernel) ⟨by decide, by decide⟩ ⟨rfl, rfl⟩ rfl rfl (Nat.le_of_ble_eq_true rfl) ⟨Nat.le_refl 0, Nat.le_refl 0⟩ dX6_best_106 ?_
      refine sv_aload_n hC dX6_best_109 0 rfl rfl ?_
      obtain ⟨r19, er19, h⟩ := sv_ob h
      refine sv_wVi (nn := 0) hC (met_md_eatenAll hC.F ho a s18 er19) 0 0 rfl rfl rfl (lw_V q1316 q1318 qs42 q62 q1319) (by decide +kernel) ⟨by decide, by decide⟩ ⟨rfl, rfl⟩ rfl rfl (Nat.le_of_ble_eq_true rfl) ⟨Nat.le_refl 0, Nat.le_refl 0⟩ dX6_best_110 ?_
      refine sv_istore hC dX6_best_113 (by decide) (lvq := [(7, .int r19), (0, .ref ho), (1, .int x1), (2, .int x2), (3, .int x3), (4, .int x4), (5, .int x5), (6, .int x6)]) rfl ?_
      refine sv_iload_n hC dX6_best_115 3 rfl rfl ?_
      refine sv_iconst hC (v := 1) dX6_best_116 (by decide) ?_
      refine sv_icmp_ne hC (tgt := 125) dX6_best_117 (by decide) (fun c20 => ?_) (fun c20 => ?_)
      · have h := sv_if c20 h
        refine sv_iload hC dX6_best_125 0 rfl ?_
        refine sv_aload_n hC dX6_best_127 1 rfl rfl ?_
        refine sv_iload_n hC dX6_best_128 2 rfl rfl ?_
        refine sv_iconst hC (v := 1) dX6_best_129 (by decide) ?_
        refine sv_iadd hC dX6_best_130 ?_
        obtain ⟨p21, ep21, h⟩ := sv_ob h
        refine sv_wVi (nn := 1) hC (met_md_leastSecond hC.F ho a (x1 + 1) s18 ep21) 0 0 rfl rfl rfl (lw_V q1357 q1359 qs48 q62 q1360) (by decide +kernel) ⟨by decide, by decide⟩ ⟨rfl, rfl⟩ rfl rfl (Nat.le_of_ble_eq_true rfl) ⟨Nat.le_refl 0, Nat.le_refl 0⟩ dX6_best_131 ?_
        refine sv_iadd hC dX6_best_134 ?_
        refine sv_loc [1, 2, 3, 4, 5, 6, 7] (lvq := [(0, .ref ho), (1, .int x1), (2, .int x2), (3, .int x3), (4, .int x4), (5, .int x5), (6, .int x6)]) rfl ?_
        exact wk_md_best_135 ho a hC hQ rk_81 hk_81 x1 x2 x3 x4 x5 x6 (r19 + p21.1) p21.2 h
      · have h := sv_it c20 h
        refine sv_iload hC dX6_best_120 0 rfl ?_
        refine sv_goto hC (tgt := 135) dX6_best_122 (by decide) ?_
        refine sv_loc [1, 2, 3, 4, 5, 6, 7] (lvq := [(0, .ref ho), (1, .int x1), (2, .int x2), (3, .int x3), (4, .int x4), (5, .int x5), (6, .int x6)]) rfl ?_
        exact wk_md_best_135 ho a hC hQ rk_81 hk_81 x1 x2 x3 x4 x5 x6 r19 s18 h
set_option maxHeartbeats 2000000 in
theorem wk_md_best_81 {Γ : sv_G} (ho : Nat) (a : Nat → Nat) (hC : sv_C Γ cX6_best 9 RX6 (some .int) rm_X6_best) {r0 : Int32 × MSt} (hQ : sv_RQ Γ (sv_pI r0.1 (MW (sg_dA Γ) ho a r0.2)) 0 0)  : ∀ (n : Nat) (x1 : Int32) (x2 : Int32) (x3 : Int32) (x4 : Int32) (x5 : Int32) (x6 : Int32) (σ : MSt)  (h : md_best_81 n x1 x2 x3 x4 x5 x6 σ = some r0), sv_V Γ (MW (sg_dA Γ) ho a σ) 0 0 81 [(0, .ref ho), (1, .int x1), (2, .int x2), (3, .int x3), (4, .int x4), (5, .int x5), (6, .int x6)] [] := by
  intro n
  induction n with
  | zero => intro x1 x2 x3 x4 x5 x6 σ h; cases h
  | succ n ih => intro x1 x2 x3 x4 x5 x6 σ h; exact wk_md_best_81b ho a hC hQ (md_best_81 n) ih x1 x2 x3 x4 x5 x6 σ h
set_option maxHeartbeats 2000000 in
theorem wk_md_best {Γ : sv_G} (ho : Nat) (a : Nat → Nat) (hC : sv_C Γ cX6_best 9 RX6 (some .int) rm_X6_best) {r0 : Int32 × MSt} (hQ : sv_RQ Γ (sv_pI r0.1 (MW (sg_dA Γ) ho a r0.2)) 0 0) (x1 : Int32) (x2 : Int32) (x3 : Int32) (σ : MSt) (h : md_best x1 x2 x3 σ = some r0) : sv_V Γ (MW (sg_dA Γ) ho a σ) 0 0 0 [(0, .ref ho), (1, .int x1), (2, .int x2), (3, .int x3)] [] := by
  unfold md_best at h
  refine sv_aload_n hC dX6_best_0 0 rfl rfl ?_
  refine sv_iload_n hC dX6_best_1 1 rfl rfl ?_
  obtain ⟨r1, er1, h⟩ := sv_ob h
  refine sv_wVi (nn := 1) hC (met_md_isDay hC.F ho a σ x1 er1) 0 0 rfl rfl rfl (lw_V q1276 q1278 qs33 q62 q1279) (by decide +kernel) ⟨by decide, by decide⟩ ⟨rfl, rfl⟩ rfl rfl (Nat.le_of_ble_eq_true rfl) ⟨Nat.le_refl 0, Nat.le_refl 0⟩ dX6_best_2 ?_
  refine sv_if_ne hC (tgt := 11) dX6_best_5 (by decide) (fun c2 => ?_) (fun c2 => ?_)
  · have h := sv_if c2 h
    refine sv_iload_n hC dX6_best_11 2 rfl rfl ?_
    refine sv_i2l hC dX6_best_12 ?_
    refine sv_lconst hC (v := 1) dX6_best_13 (by decide) ?_
    refine sv_ldc2 hC dX6_best_14 q1344 ?_
    obtain ⟨r3, er3, h⟩ := sv_ob h
    refine sv_pSi (nn := 3) hC (met_md_in hC.F x2.toInt64 1 2 er3) (lw_S q1182 q1183 q62 q1184) (by decide +kernel) ⟨by decide, by decide⟩ ⟨rfl, rfl⟩ rfl rfl (Nat.le_of_ble_eq_true rfl) ⟨Nat.le_refl 0, Nat.le_refl 0⟩ dX6_best_17 ?_
    refine sv_if_eq hC (tgt := 47) dX6_best_20 (by decide) (fun c4 => ?_) (fun c4 => ?_)
    · have h := sv_it c4 h
      refine sv_bipush hC (v := (-3)) dX6_best_47 (by decide) ?_
      exact sv_iret hC hQ dX6_best_49 (by have e := Option.some.inj h; subst e; exact ⟨rfl, rfl⟩)
    · have h := sv_if c4 h
      refine sv_iload_n hC dX6_best_23 1 rfl rfl ?_
      refine sv_iload_n hC dX6_best_24 2 rfl rfl ?_
      refine sv_iadd hC dX6_best_25 ?_
      refine sv_aload_n hC dX6_best_26 0 rfl rfl ?_
      refine sv_get hC in_X6 0 rfl rfl 16 (by decide) q1072 rfl (v := .int (σ.1 16)) rfl dX6_best_27 ?_
      refine sv_icmp_gt hC (tgt := 47) dX6_best_30 (by decide) (fun c5 => ?_) (fun c5 => ?_)
      · have h := sv_it c5 h
        refine sv_bipush hC (v := (-3)) dX6_best_47 (by decide) ?_
        exact sv_iret hC hQ dX6_best_49 (by have e := Option.some.inj h; subst e; exact ⟨rfl, rfl⟩)
      · have h := sv_if c5 h
        refine sv_iload_n hC dX6_best_33 3 rfl rfl ?_
        refine sv_i2l hC dX6_best_34 ?_
        refine sv_ldc2 hC dX6_best_35 q1267 ?_
        refine sv_ldc2 hC dX6_best_38 q1242 ?_
        obtain ⟨r6, er6, h⟩ := sv_ob h
        refine sv_pSi (nn := 3) hC (met_md_in hC.F x3.toInt64 (-1) 3 er6) (lw_S q1182 q1183 q62 q1184) (by decide +kernel) ⟨by decide, by decide⟩ ⟨rfl, rfl⟩ rfl rfl (Nat.le_of_ble_eq_true rfl) ⟨Nat.le_refl 0, Nat.le_refl 0⟩ dX6_best_41 ?_
        refine sv_if_ne hC (tgt := 50) dX6_best_44 (by decide) (fun c7 => ?_) (fun c7 => ?_)
        · have h := sv_if c7 h
          refine sv_aload_n hC dX6_best_50 0 rfl rfl ?_
          obtain ⟨s8, es8, h⟩ := sv_ob h
          refine sv_wVv (nn := 0) hC (met_md_asPlanned hC.F ho a σ es8) 0 0 rfl rfl rfl (lw_V q1280 q1282 qs34 q62 q1283) (by decide +kernel) ⟨by decide, by decide⟩ ⟨rfl, rfl⟩ rfl rfl (Nat.le_of_ble_eq_true rfl) ⟨Nat.le_refl 0, Nat.le_refl 0⟩ dX6_best_51 ?_
          refine sv_aload_n hC dX6_best_54 0 rfl rfl ?_
          refine sv_iload_n hC dX6_best_55 1 rfl rfl ?_
          refine sv_iconst hC (v := 1) dX6_best_56 (by decide) ?_
          refine sv_isub hC dX6_best_57 ?_
          obtain ⟨s9, es9, h⟩ := sv_ob h
          refine sv_wVv (nn := 1) hC (met_md_goTo hC.F ho a (x1 - 1) s8 es9) 0 0 rfl rfl rfl (lw_V q1284 q1286 qs35 q62 q1287) (by decide +kernel) ⟨by decide, by decide⟩ ⟨rfl, rfl⟩ rfl rfl (Nat.le_of_ble_eq_true rfl) ⟨Nat.le_refl 0, Nat.le_refl 0⟩ dX6_best_58 ?_
          refine sv_aload_n hC dX6_best_61 0 rfl rfl ?_
          refine sv_iconst hC (v := 0) dX6_best_62 (by decide) ?_
          obtain ⟨s10, es10, h⟩ := sv_ob h
          refine sv_wVv (nn := 1) hC (met_md_keep hC.F ho a 0 s9 es10) 0 0 rfl rfl rfl (lw_V q1345 q1347 qs45 q62 q1348) (by decide +kernel) ⟨by decide, by decide⟩ ⟨rfl, rfl⟩ rfl rfl (Nat.le_of_ble_eq_true rfl) ⟨Nat.le_refl 0, Nat.le_refl 0⟩ dX6_best_63 ?_
          refine sv_aload_n hC dX6_best_66 0 rfl rfl ?_
          refine sv_iload_n hC dX6_best_67 1 rfl rfl ?_
          refine sv_put hC in_X6 tyX6 tyX6_ok nmX6 0 rfl rfl 31 (by decide) q1087 rfl rfl rfl rfl (Nat.le_of_ble_eq_true rfl) (Xq := MW (sg_dA Γ) ho a (ms_s s10 31 x1)) rfl dX6_best_68 ?_
          refine sv_ldc hC dX6_best_71 q1055 ?_
          refine sv_istore hC dX6_best_73 (by decide) (lvq := [(4, .int 268435456), (0, .ref ho), (1, .int x1), (2, .int x2), (3, .int x3)]) rfl ?_
          refine sv_iconst hC (v := 0) dX6_best_75 (by decide) ?_
          refine sv_istore hC dX6_best_76 (by decide) (lvq := [(5, .int 0), (4, .int 268435456), (0, .ref ho), (1, .int x1), (2, .int x2), (3, .int x3)]) rfl ?_
          refine sv_iconst hC (v := 0) dX6_best_78 (by decide) ?_
          refine sv_istore hC dX6_best_79 (by decide) (lvq := [(6, .int 0), (5, .int 0), (4, .int 268435456), (0, .ref ho), (1, .int x1), (2, .int x2), (3, .int x3)]) rfl ?_
          refine sv_loc [3, 4, 5, 6, 2, 1, 0] (lvq := [(0, .ref ho), (1, .int x1), (2, .int x2), (3, .int x3), (4, .int 268435456), (5, .int 0), (6, .int 0)]) rfl ?_
          exact wk_md_best_81 ho a hC hQ sv_FU x1 x2 x3 268435456 0 0 (ms_s s10 31 x1) h
        · have h := sv_it c7 h
          refine sv_bipush hC (v := (-3)) dX6_best_47 (by decide) ?_
          exact sv_iret hC hQ dX6_best_49 (by have e := Option.some.inj h; subst e; exact ⟨rfl, rfl⟩)
  · have h := sv_it c2 h
    refine sv_bipush hC (v := (-2)) dX6_best_8 (by decide) ?_
    exact sv_iret hC hQ dX6_best_10 (by have e := Option.some.inj h; subst e; exact ⟨rfl, rfl⟩)
set_option maxHeartbeats 2000000 in
theorem met_md_best {l : Launch} {s0 : State} {D : va_G} {dA : Nat → ClassId} (hF : sv_F s0 D dA) (ho : Nat) (a : Nat → Nat) (x1 : Int32) (x2 : Int32) (x3 : Int32) (σ : MSt) {r0 : Int32 × MSt} (h : md_best x1 x2 x3 σ = some r0) : sv_M l s0 D yX6_best cX6_best 9 (some .int) rm_X6_best [.ref ho, .int x1, .int x2, .int x3] (MW dA ho a σ) (sv_pI r0.1 (MW dA ho a r0.2)) :=
  sv_met hF (by decide) (Nat.le_of_ble_eq_true rfl) (fun Γ hC hQ hmn e1 e2 e3 e4 => by
    subst e1 e2 e3 e4
    exact wk_md_best ho a hC hQ x1 x2 x3 σ h)
set_option maxHeartbeats 2000000 in
theorem wk_md_isLevel {Γ : sv_G}  (hC : sv_C Γ cX6_isLevel 1 RX6 (some .boolean) rm_X6_isLevel) {r0 : Int32} (hQ : sv_RQ Γ (sv_pI r0 []) 0 0) (x0 : Int32) (h : md_isLevel x0 = some r0) : sv_V Γ ([]) 0 0 0 [(0, .int x0)] [] := by
  unfold md_isLevel at h
  refine sv_iload_n hC dX6_isLevel_0 0 rfl rfl ?_
  refine sv_i2l hC dX6_isLevel_1 ?_
  refine sv_lconst hC (v := 1) dX6_isLevel_2 (by decide) ?_
  refine sv_ldc2 hC dX6_isLevel_3 q1368 ?_
  obtain ⟨r1, er1, h⟩ := sv_ob h
  refine sv_pSi (nn := 3) hC (met_md_in hC.F x0.toInt64 1 999 er1) (lw_S q1182 q1183 q62 q1184) (by decide +kernel) ⟨by decide, by decide⟩ ⟨rfl, rfl⟩ rfl rfl (Nat.le_of_ble_eq_true rfl) ⟨Nat.le_refl 0, Nat.le_refl 0⟩ dX6_isLevel_6 ?_
  obtain ⟨b2, eb2, h⟩ := sv_ob h
  obtain ⟨e1, e2⟩ := sv_zb_n eb2
  subst e1
  exact sv_zret hC hQ dX6_isLevel_9 e2 (by have e := Option.some.inj h; subst e; exact ⟨rfl, rfl⟩)
set_option maxHeartbeats 2000000 in
theorem met_md_isLevel {l : Launch} {s0 : State} {D : va_G} {dA : Nat → ClassId} (hF : sv_F s0 D dA)  (x0 : Int32) {r0 : Int32} (h : md_isLevel x0 = some r0) : sv_M l s0 D yX6_isLevel cX6_isLevel 1 (some .boolean) rm_X6_isLevel [.int x0] ([]) (sv_pI r0 []) :=
  sv_met hF (by decide) (Nat.le_of_ble_eq_true rfl) (fun Γ hC hQ hmn e1 e2 e3 e4 => by
    subst e1 e2 e3 e4
    exact wk_md_isLevel hC hQ x0 h)
set_option maxHeartbeats 2000000 in
theorem wk_md_seldom_31b {Γ : sv_G} (ho : Nat) (a : Nat → Nat) (σ : MSt) (hC : sv_C Γ cX6_seldom 6 RX6 (some .int) rm_X6_seldom) {r0 : Int32} (hQ : sv_RQ Γ (sv_pI r0 (MW (sg_dA Γ) ho a σ)) 0 0)  (rk_31 : Int32 → Int32 → Int32 → Int32 → Int32 → Option Int32) (hk_31 : ∀ (x1 : Int32) (x2 : Int32) (x3 : Int32) (x4 : Int32) (x5 : Int32), rk_31 x1 x2 x3 x4 x5 = some r0 → sv_V Γ (MW (sg_dA Γ) ho a σ) 0 0 31 [(0, .ref ho), (1, .int x1), (2, .int x2), (3, .int x3), (4, .int x4), (5, .int x5)] []) (x1 : Int32) (x2 : Int32) (x3 : Int32) (x4 : Int32) (x5 : Int32)  (h : md_seldom_31b σ rk_31 x1 x2 x3 x4 x5 = some r0) : sv_V Γ (MW (sg_dA Γ) ho a σ) 0 0 31 [(0, .ref ho), (1, .int x1), (2, .int x2), (3, .int x3), (4, .int x4), (5, .int x5)] [] := by
  unfold md_seldom_31b at h
  refine sv_iload hC dX6_seldom_31 5 rfl ?_
  refine sv_bipush hC (v := 100) dX6_seldom_33 (by decide) ?_
  refine sv_icmp_ge hC (tgt := 70) dX6_seldom_35 (by decide) (fun c5 => ?_) (fun c5 => ?_)
  · have h := sv_it c5 h
    refine sv_iload_n hC dX6_seldom_70 3 rfl rfl ?_
    exact sv_iret hC hQ dX6_seldom_71 (by have e := Option.some.inj h; subst e; exact ⟨rfl, rfl⟩)
  · have h := sv_if c5 h
    refine sv_iload hC dX6_seldom_38 4 rfl ?_
    refine sv_iload_n hC dX6_seldom_40 2 rfl rfl ?_
    refine sv_icmp_lt hC (tgt := 70) dX6_seldom_41 (by decide) (fun c6 => ?_) (fun c6 => ?_)
    · have h := sv_it c6 h
      refine sv_iload_n hC dX6_seldom_70 3 rfl rfl ?_
      exact sv_iret hC hQ dX6_seldom_71 (by have e := Option.some.inj h; subst e; exact ⟨rfl, rfl⟩)
    · have h := sv_if c6 h
      refine sv_iload hC dX6_seldom_44 5 rfl ?_
      refine sv_istore_n hC dX6_seldom_46 rfl (by decide) (lvq := [(3, .int x5), (0, .ref ho), (1, .int x1), (2, .int x2), (4, .int x4), (5, .int x5)]) rfl ?_
      refine sv_iload hC dX6_seldom_47 4 rfl ?_
      refine sv_bipush hC (v := 100) dX6_seldom_49 (by decide) ?_
      refine sv_aload_n hC dX6_seldom_51 1 rfl rfl ?_
      refine sv_get hC in_X6 0 rfl rfl 12 (by decide) q1068 rfl (v := .ref (a 12)) rfl dX6_seldom_52 ?_
      refine sv_iload_n hC dX6_seldom_55 2 rfl rfl ?_
      obtain ⟨j7, ej7, h⟩ := sv_ob h
      refine sv_iald hC 8 (f := σ.2 12) rfl rfl (j := j7) ej7 dX6_seldom_56 ?_
      refine sv_isub hC dX6_seldom_57 ?_
      refine sv_imul hC dX6_seldom_58 ?_
      refine sv_bipush hC (v := 100) dX6_seldom_59 (by decide) ?_
      refine sv_idiv hC dX6_seldom_61 (by decide) ?_
      refine sv_istore hC dX6_seldom_62 (by decide) (lvq := [(4, .int ((x4 * (100 - (σ.2 12 j7))) / 100)), (3, .int x5), (0, .ref ho), (1, .int x1), (2, .int x2), (5, .int x5)]) rfl ?_
      refine sv_iinc hC (v := x5 + 1) dX6_seldom_64 5 rfl rfl (by decide) (lvq := [(5, .int (x5 + 1)), (4, .int ((x4 * (100 - (σ.2 12 j7))) / 100)), (3, .int x5), (0, .ref ho), (1, .int x1), (2, .int x2)]) rfl ?_
      refine sv_goto hC (tgt := 31) dX6_seldom_67 (by decide) ?_
      refine sv_loc [3, 4, 5, 2, 1, 0] (lvq := [(0, .ref ho), (1, .int x1), (2, .int x2), (3, .int x5), (4, .int ((x4 * (100 - (σ.2 12 j7))) / 100)), (5, .int (x5 + 1))]) rfl ?_
      exact hk_31 x1 x2 x5 ((x4 * (100 - (σ.2 12 j7))) / 100) (x5 + 1) h
set_option maxHeartbeats 2000000 in
theorem wk_md_seldom_31 {Γ : sv_G} (ho : Nat) (a : Nat → Nat) (σ : MSt) (hC : sv_C Γ cX6_seldom 6 RX6 (some .int) rm_X6_seldom) {r0 : Int32} (hQ : sv_RQ Γ (sv_pI r0 (MW (sg_dA Γ) ho a σ)) 0 0)  : ∀ (n : Nat) (x1 : Int32) (x2 : Int32) (x3 : Int32) (x4 : Int32) (x5 : Int32)  (h : md_seldom_31 σ n x1 x2 x3 x4 x5 = some r0), sv_V Γ (MW (sg_dA Γ) ho a σ) 0 0 31 [(0, .ref ho), (1, .int x1), (2, .int x2), (3, .int x3), (4, .int x4), (5, .int x5)] [] := by
  intro n
  induction n with
  | zero => intro x1 x2 x3 x4 x5 h; cases h
  | succ n ih => intro x1 x2 x3 x4 x5 h; exact wk_md_seldom_31b ho a σ hC hQ (md_seldom_31 σ n) ih x1 x2 x3 x4 x5 h
set_option maxHeartbeats 2000000 in
theorem wk_md_seldom {Γ : sv_G} (ho : Nat) (a : Nat → Nat) (σ : MSt) (hC : sv_C Γ cX6_seldom 6 RX6 (some .int) rm_X6_seldom) {r0 : Int32} (hQ : sv_RQ Γ (sv_pI r0 (MW (sg_dA Γ) ho a σ)) 0 0) (x1 : Int32) (x2 : Int32) (h : md_seldom σ x1 x2 = some r0) : sv_V Γ (MW (sg_dA Γ) ho a σ) 0 0 0 [(0, .ref ho), (1, .int x1), (2, .int x2)] [] := by
  unfold md_seldom at h
  refine sv_aload_n hC dX6_seldom_0 0 rfl rfl ?_
  refine sv_iload_n hC dX6_seldom_1 1 rfl rfl ?_
  obtain ⟨r1, er1, h⟩ := sv_ob h
  refine sv_wVi (nn := 1) hC (met_md_isCoat hC.F ho a σ x1 er1) 0 0 rfl rfl rfl (lw_V q1258 q1260 qs32 q62 q1261) (by decide +kernel) ⟨by decide, by decide⟩ ⟨rfl, rfl⟩ rfl rfl (Nat.le_of_ble_eq_true rfl) ⟨Nat.le_refl 0, Nat.le_refl 0⟩ dX6_seldom_2 ?_
  refine sv_if_ne hC (tgt := 11) dX6_seldom_5 (by decide) (fun c2 => ?_) (fun c2 => ?_)
  · have h := sv_if c2 h
    refine sv_iload_n hC dX6_seldom_11 2 rfl rfl ?_
    obtain ⟨r3, er3, h⟩ := sv_ob h
    refine sv_pSi (nn := 1) hC (met_md_isLevel hC.F x2 er3) (lw_S q1365 q1366 q62 q1367) (by decide +kernel) ⟨by decide, by decide⟩ ⟨rfl, rfl⟩ rfl rfl (Nat.le_of_ble_eq_true rfl) ⟨Nat.le_refl 0, Nat.le_refl 0⟩ dX6_seldom_12 ?_
    refine sv_if_ne hC (tgt := 21) dX6_seldom_15 (by decide) (fun c4 => ?_) (fun c4 => ?_)
    · have h := sv_if c4 h
      refine sv_iconst hC (v := (-1)) dX6_seldom_21 (by decide) ?_
      refine sv_istore_n hC dX6_seldom_22 rfl (by decide) (lvq := [(3, .int (-1)), (0, .ref ho), (1, .int x1), (2, .int x2)]) rfl ?_
      refine sv_sipush hC (v := 999) dX6_seldom_23 (by decide) ?_
      refine sv_istore hC dX6_seldom_26 (by decide) (lvq := [(4, .int 999), (3, .int (-1)), (0, .ref ho), (1, .int x1), (2, .int x2)]) rfl ?_
      refine sv_iconst hC (v := 1) dX6_seldom_28 (by decide) ?_
      refine sv_istore hC dX6_seldom_29 (by decide) (lvq := [(5, .int 1), (4, .int 999), (3, .int (-1)), (0, .ref ho), (1, .int x1), (2, .int x2)]) rfl ?_
      refine sv_loc [3, 4, 5, 2, 1, 0] (lvq := [(0, .ref ho), (1, .int x1), (2, .int x2), (3, .int (-1)), (4, .int 999), (5, .int 1)]) rfl ?_
      exact wk_md_seldom_31 ho a σ hC hQ sv_FU x1 x2 (-1) 999 1 h
    · have h := sv_it c4 h
      refine sv_bipush hC (v := (-3)) dX6_seldom_18 (by decide) ?_
      exact sv_iret hC hQ dX6_seldom_20 (by have e := Option.some.inj h; subst e; exact ⟨rfl, rfl⟩)
  · have h := sv_it c2 h
    refine sv_bipush hC (v := (-2)) dX6_seldom_8 (by decide) ?_
    exact sv_iret hC hQ dX6_seldom_10 (by have e := Option.some.inj h; subst e; exact ⟨rfl, rfl⟩)
set_option maxHeartbeats 2000000 in
theorem met_md_seldom {l : Launch} {s0 : State} {D : va_G} {dA : Nat → ClassId} (hF : sv_F s0 D dA) (ho : Nat) (a : Nat → Nat) (σ : MSt) (x1 : Int32) (x2 : Int32) {r0 : Int32} (h : md_seldom σ x1 x2 = some r0) : sv_M l s0 D yX6_seldom cX6_seldom 6 (some .int) rm_X6_seldom [.ref ho, .int x1, .int x2] (MW dA ho a σ) (sv_pI r0 (MW dA ho a σ)) :=
  sv_met hF (by decide) (Nat.le_of_ble_eq_true rfl) (fun Γ hC hQ hmn e1 e2 e3 e4 => by
    subst e1 e2 e3 e4
    exact wk_md_seldom ho a σ hC hQ x1 x2 h)
set_option maxHeartbeats 2000000 in
theorem wk_md_lasts_66 {Γ : sv_G} (ho : Nat) (a : Nat → Nat) (σ : MSt) (hC : sv_C Γ cX6_lasts 5 RX6 (some .int) rm_X6_lasts) {r0 : Int32} (hQ : sv_RQ Γ (sv_pI r0 (MW (sg_dA Γ) ho a σ)) 0 0)  (x2 : Int32) (x3 : Int32) (x4 : Int32)  (h : md_lasts_66 σ x2 x3 x4 = some r0) : sv_V Γ (MW (sg_dA Γ) ho a σ) 0 0 66 [(2, .int x2), (3, .int x3), (4, .int x4)] [] := by
  unfold md_lasts_66 at h
  refine sv_iload_n hC dX6_lasts_66 1 rfl rfl ?_
  refine sv_iload_n hC dX6_lasts_67 0 rfl rfl ?_
  refine sv_icmp_lt hC (tgt := 75) dX6_lasts_68 (by decide) (fun c10 => ?_) (fun c10 => ?_)
  · have h := sv_it c10 h
    refine sv_iload hC dX6_lasts_75 2 rfl ?_
    exact sv_iret hC hQ dX6_lasts_77 (by have e := Option.some.inj h; subst e; exact ⟨rfl, rfl⟩)
  · have h := sv_if c10 h
    refine sv_iconst hC (v := (-1)) dX6_lasts_71 (by decide) ?_
    refine sv_goto hC (tgt := 77) dX6_lasts_72 (by decide) ?_
    exact sv_iret hC hQ dX6_lasts_77 (by have e := Option.some.inj h; subst e; exact ⟨rfl, rfl⟩)
set_option maxHeartbeats 2000000 in
theorem wk_md_lasts_31b {Γ : sv_G} (ho : Nat) (a : Nat → Nat) (σ : MSt) (hC : sv_C Γ cX6_lasts 5 RX6 (some .int) rm_X6_lasts) {r0 : Int32} (hQ : sv_RQ Γ (sv_pI r0 (MW (sg_dA Γ) ho a σ)) 0 0)  (rk_31 : Int32 → Int32 → Int32 → Int32 → Option Int32) (hk_31 : ∀ (x1 : Int32) (x2 : Int32) (x3 : Int32) (x4 : Int32), rk_31 x1 x2 x3 x4 = some r0 → sv_V Γ (MW (sg_dA Γ) ho a σ) 0 0 31 [(0, .ref ho), (1, .int x1), (2, .int x2), (3, .int x3), (4, .int x4)] []) (x1 : Int32) (x2 : Int32) (x3 : Int32) (x4 : Int32)  (h : md_lasts_31b σ rk_31 x1 x2 x3 x4 = some r0) : sv_V Γ (MW (sg_dA Γ) ho a σ) 0 0 31 [(0, .ref ho), (1, .int x1), (2, .int x2), (3, .int x3), (4, .int x4)] [] := by
  unfold md_lasts_31b at h
  refine sv_iload_n hC dX6_lasts_31 3 rfl rfl ?_
  refine sv_iload_n hC dX6_lasts_32 2 rfl rfl ?_
  refine sv_icmp_lt hC (tgt := 66) dX6_lasts_33 (by decide) (fun c6 => ?_) (fun c6 => ?_)
  · have h := sv_it c6 h
    refine sv_loc [2, 3, 4] (lvq := [(2, .int x2), (3, .int x3), (4, .int x4)]) rfl ?_
    exact wk_md_lasts_66 ho a σ hC hQ x2 x3 x4 h
  · have h := sv_if c6 h
    refine sv_aload_n hC dX6_lasts_36 0 rfl rfl ?_
    refine sv_get hC in_X6 0 rfl rfl 12 (by decide) q1068 rfl (v := .ref (a 12)) rfl dX6_lasts_37 ?_
    refine sv_iload_n hC dX6_lasts_40 1 rfl rfl ?_
    obtain ⟨j7, ej7, h⟩ := sv_ob h
    refine sv_iald hC 8 (f := σ.2 12) rfl rfl (j := j7) ej7 dX6_lasts_41 ?_
    refine sv_if_le hC (tgt := 66) dX6_lasts_42 (by decide) (fun c8 => ?_) (fun c8 => ?_)
    · have h := sv_it c8 h
      refine sv_loc [2, 3, 4] (lvq := [(2, .int x2), (3, .int x3), (4, .int x4)]) rfl ?_
      exact wk_md_lasts_66 ho a σ hC hQ x2 x3 x4 h
    · have h := sv_if c8 h
      refine sv_iload_n hC dX6_lasts_45 3 rfl rfl ?_
      refine sv_bipush hC (v := 100) dX6_lasts_46 (by decide) ?_
      refine sv_aload_n hC dX6_lasts_48 0 rfl rfl ?_
      refine sv_get hC in_X6 0 rfl rfl 12 (by decide) q1068 rfl (v := .ref (a 12)) rfl dX6_lasts_49 ?_
      refine sv_iload_n hC dX6_lasts_52 1 rfl rfl ?_
      obtain ⟨j9, ej9, h⟩ := sv_ob h
      refine sv_iald hC 8 (f := σ.2 12) rfl rfl (j := j9) ej9 dX6_lasts_53 ?_
      refine sv_isub hC dX6_lasts_54 ?_
      refine sv_imul hC dX6_lasts_55 ?_
      refine sv_bipush hC (v := 100) dX6_lasts_56 (by decide) ?_
      refine sv_idiv hC dX6_lasts_58 (by decide) ?_
      refine sv_istore_n hC dX6_lasts_59 rfl (by decide) (lvq := [(3, .int ((x3 * (100 - (σ.2 12 j9))) / 100)), (0, .ref ho), (1, .int x1), (2, .int x2), (4, .int x4)]) rfl ?_
      refine sv_iinc hC (v := x4 + 1) dX6_lasts_60 4 rfl rfl (by decide) (lvq := [(4, .int (x4 + 1)), (3, .int ((x3 * (100 - (σ.2 12 j9))) / 100)), (0, .ref ho), (1, .int x1), (2, .int x2)]) rfl ?_
      refine sv_goto hC (tgt := 31) dX6_lasts_63 (by decide) ?_
      refine sv_loc [2, 3, 4, 1, 0] (lvq := [(0, .ref ho), (1, .int x1), (2, .int x2), (3, .int ((x3 * (100 - (σ.2 12 j9))) / 100)), (4, .int (x4 + 1))]) rfl ?_
      exact hk_31 x1 x2 ((x3 * (100 - (σ.2 12 j9))) / 100) (x4 + 1) h
set_option maxHeartbeats 2000000 in
theorem wk_md_lasts_31 {Γ : sv_G} (ho : Nat) (a : Nat → Nat) (σ : MSt) (hC : sv_C Γ cX6_lasts 5 RX6 (some .int) rm_X6_lasts) {r0 : Int32} (hQ : sv_RQ Γ (sv_pI r0 (MW (sg_dA Γ) ho a σ)) 0 0)  : ∀ (n : Nat) (x1 : Int32) (x2 : Int32) (x3 : Int32) (x4 : Int32)  (h : md_lasts_31 σ n x1 x2 x3 x4 = some r0), sv_V Γ (MW (sg_dA Γ) ho a σ) 0 0 31 [(0, .ref ho), (1, .int x1), (2, .int x2), (3, .int x3), (4, .int x4)] [] := by
  intro n
  induction n with
  | zero => intro x1 x2 x3 x4 h; cases h
  | succ n ih => intro x1 x2 x3 x4 h; exact wk_md_lasts_31b ho a σ hC hQ (md_lasts_31 σ n) ih x1 x2 x3 x4 h
set_option maxHeartbeats 2000000 in
theorem wk_md_lasts {Γ : sv_G} (ho : Nat) (a : Nat → Nat) (σ : MSt) (hC : sv_C Γ cX6_lasts 5 RX6 (some .int) rm_X6_lasts) {r0 : Int32} (hQ : sv_RQ Γ (sv_pI r0 (MW (sg_dA Γ) ho a σ)) 0 0) (x1 : Int32) (x2 : Int32) (h : md_lasts σ x1 x2 = some r0) : sv_V Γ (MW (sg_dA Γ) ho a σ) 0 0 0 [(0, .ref ho), (1, .int x1), (2, .int x2)] [] := by
  unfold md_lasts at h
  refine sv_aload_n hC dX6_lasts_0 0 rfl rfl ?_
  refine sv_iload_n hC dX6_lasts_1 1 rfl rfl ?_
  obtain ⟨r1, er1, h⟩ := sv_ob h
  refine sv_wVi (nn := 1) hC (met_md_isCoat hC.F ho a σ x1 er1) 0 0 rfl rfl rfl (lw_V q1258 q1260 qs32 q62 q1261) (by decide +kernel) ⟨by decide, by decide⟩ ⟨rfl, rfl⟩ rfl rfl (Nat.le_of_ble_eq_true rfl) ⟨Nat.le_refl 0, Nat.le_refl 0⟩ dX6_lasts_2 ?_
  refine sv_if_ne hC (tgt := 11) dX6_lasts_5 (by decide) (fun c2 => ?_) (fun c2 => ?_)
  · have h := sv_if c2 h
    refine sv_iload_n hC dX6_lasts_11 2 rfl rfl ?_
    obtain ⟨r3, er3, h⟩ := sv_ob h
    refine sv_pSi (nn := 1) hC (met_md_isLevel hC.F x2 er3) (lw_S q1365 q1366 q62 q1367) (by decide +kernel) ⟨by decide, by decide⟩ ⟨rfl, rfl⟩ rfl rfl (Nat.le_of_ble_eq_true rfl) ⟨Nat.le_refl 0, Nat.le_refl 0⟩ dX6_lasts_12 ?_
    refine sv_if_ne hC (tgt := 21) dX6_lasts_15 (by decide) (fun c4 => ?_) (fun c4 => ?_)
    · have h := sv_if c4 h
      refine sv_aload_n hC dX6_lasts_21 0 rfl rfl ?_
      refine sv_get hC in_X6 0 rfl rfl 11 (by decide) q1067 rfl (v := .ref (a 11)) rfl dX6_lasts_22 ?_
      refine sv_iload_n hC dX6_lasts_25 1 rfl rfl ?_
      obtain ⟨j5, ej5, h⟩ := sv_ob h
      refine sv_iald hC 7 (f := σ.2 11) rfl rfl (j := j5) ej5 dX6_lasts_26 ?_
      refine sv_istore_n hC dX6_lasts_27 rfl (by decide) (lvq := [(3, .int (σ.2 11 j5)), (0, .ref ho), (1, .int x1), (2, .int x2)]) rfl ?_
      refine sv_iconst hC (v := 0) dX6_lasts_28 (by decide) ?_
      refine sv_istore hC dX6_lasts_29 (by decide) (lvq := [(4, .int 0), (3, .int (σ.2 11 j5)), (0, .ref ho), (1, .int x1), (2, .int x2)]) rfl ?_
      refine sv_loc [2, 3, 4, 1, 0] (lvq := [(0, .ref ho), (1, .int x1), (2, .int x2), (3, .int (σ.2 11 j5)), (4, .int 0)]) rfl ?_
      exact wk_md_lasts_31 ho a σ hC hQ sv_FU x1 x2 (σ.2 11 j5) 0 h
    · have h := sv_it c4 h
      refine sv_bipush hC (v := (-3)) dX6_lasts_18 (by decide) ?_
      exact sv_iret hC hQ dX6_lasts_20 (by have e := Option.some.inj h; subst e; exact ⟨rfl, rfl⟩)
  · have h := sv_it c2 h
    refine sv_bipush hC (v := (-2)) dX6_lasts_8 (by decide) ?_
    exact sv_iret hC hQ dX6_lasts_10 (by have e := Option.some.inj h; subst e; exact ⟨rfl, rfl⟩)
set_option maxHeartbeats 2000000 in
theorem met_md_lasts {l : Launch} {s0 : State} {D : va_G} {dA : Nat → ClassId} (hF : sv_F s0 D dA) (ho : Nat) (a : Nat → Nat) (σ : MSt) (x1 : Int32) (x2 : Int32) {r0 : Int32} (h : md_lasts σ x1 x2 = some r0) : sv_M l s0 D yX6_lasts cX6_lasts 5 (some .int) rm_X6_lasts [.ref ho, .int x1, .int x2] (MW dA ho a σ) (sv_pI r0 (MW dA ho a σ)) :=
  sv_met hF (by decide) (Nat.le_of_ble_eq_true rfl) (fun Γ hC hQ hmn e1 e2 e3 e4 => by
    subst e1 e2 e3 e4
    exact wk_md_lasts ho a σ hC hQ x1 x2 h)
set_option maxHeartbeats 2000000 in
theorem wk_md_cheapest_101 {Γ : sv_G} (ho : Nat) (a : Nat → Nat) (hC : sv_C Γ cX6_cheapest 8 RX6 (some .int) rm_X6_cheapest) {r0 : Int32 × MSt} (hQ : sv_RQ Γ (sv_pI r0.1 (MW (sg_dA Γ) ho a r0.2)) 0 0) (rk_56 : Int32 → Int32 → Int32 → Int32 → MSt → Option (Int32 × MSt)) (hk_56 : ∀ (x3 : Int32) (x4 : Int32) (x5 : Int32) (x6 : Int32) (σ : MSt), rk_56 x3 x4 x5 x6 σ = some r0 → sv_V Γ (MW (sg_dA Γ) ho a σ) 0 0 56 [(0, .ref ho), (3, .int x3), (4, .int x4), (5, .int x5), (6, .int x6)] []) (x3 : Int32) (x5 : Int32) (x6 : Int32) (x7 : Int32) (t0 : Int32) (σ : MSt)  (h : md_cheapest_101 rk_56 x3 x5 x6 x7 t0 σ = some r0) : sv_V Γ (MW (sg_dA Γ) ho a σ) 0 0 101 [(0, .ref ho), (3, .int x3), (5, .int x5), (6, .int x6), (7, .int x7)] [.int t0] := by
  unfold md_cheapest_101 at h
  refine sv_istore hC dX6_cheapest_101 (by decide) (lvq := [(4, .int t0), (0, .ref ho), (3, .int x3), (5, .int x5), (6, .int x6), (7, .int x7)]) rfl ?_
  refine sv_iload hC dX6_cheapest_103 5 rfl ?_
  refine sv_iload hC dX6_cheapest_105 3 rfl ?_
  refine sv_icmp_ge hC (tgt := 115) dX6_cheapest_107 (by decide) (fun c13 => ?_) (fun c13 => ?_)
  · have h := sv_it c13 h
    refine sv_iload hC dX6_cheapest_115 3 rfl ?_
    refine sv_istore hC dX6_cheapest_117 (by decide) (lvq := [(5, .int x5), (4, .int t0), (0, .ref ho), (3, .int x3), (6, .int x6), (7, .int x7)]) rfl ?_
    refine sv_iinc hC (v := x6 + 1) dX6_cheapest_119 4 rfl rfl (by decide) (lvq := [(6, .int (x6 + 1)), (5, .int x5), (4, .int t0), (0, .ref ho), (3, .int x3), (7, .int x7)]) rfl ?_
    refine sv_goto hC (tgt := 56) dX6_cheapest_122 (by decide) ?_
    refine sv_loc [3, 4, 2, 1, 0] (lvq := [(0, .ref ho), (3, .int x3), (4, .int t0), (5, .int x5), (6, .int (x6 + 1))]) rfl ?_
    exact hk_56 x3 t0 x5 (x6 + 1) σ h
  · have h := sv_if c13 h
    refine sv_iload hC dX6_cheapest_110 5 rfl ?_
    refine sv_goto hC (tgt := 117) dX6_cheapest_112 (by decide) ?_
    refine sv_istore hC dX6_cheapest_117 (by decide) (lvq := [(5, .int x7), (4, .int t0), (0, .ref ho), (3, .int x3), (6, .int x6), (7, .int x7)]) rfl ?_
    refine sv_iinc hC (v := x6 + 1) dX6_cheapest_119 4 rfl rfl (by decide) (lvq := [(6, .int (x6 + 1)), (5, .int x7), (4, .int t0), (0, .ref ho), (3, .int x3), (7, .int x7)]) rfl ?_
    refine sv_goto hC (tgt := 56) dX6_cheapest_122 (by decide) ?_
    refine sv_loc [3, 4, 2, 1, 0] (lvq := [(0, .ref ho), (3, .int x3), (4, .int t0), (5, .int x7), (6, .int (x6 + 1))]) rfl ?_
    exact hk_56 x3 t0 x7 (x6 + 1) σ h
set_option maxHeartbeats 2000000 in
theorem wk_md_cheapest_56b {Γ : sv_G} (ho : Nat) (a : Nat → Nat) (hC : sv_C Γ cX6_cheapest 8 RX6 (some .int) rm_X6_cheapest) {r0 : Int32 × MSt} (hQ : sv_RQ Γ (sv_pI r0.1 (MW (sg_dA Γ) ho a r0.2)) 0 0)  (rk_56 : Int32 → Int32 → Int32 → Int32 → MSt → Option (Int32 × MSt)) (hk_56 : ∀ (x3 : Int32) (x4 : Int32) (x5 : Int32) (x6 : Int32) (σ : MSt), rk_56 x3 x4 x5 x6 σ = some r0 → sv_V Γ (MW (sg_dA Γ) ho a σ) 0 0 56 [(0, .ref ho), (3, .int x3), (4, .int x4), (5, .int x5), (6, .int x6)] []) (x3 : Int32) (x4 : Int32) (x5 : Int32) (x6 : Int32) (σ : MSt)  (h : md_cheapest_56b rk_56 x3 x4 x5 x6 σ = some r0) : sv_V Γ (MW (sg_dA Γ) ho a σ) 0 0 56 [(0, .ref ho), (3, .int x3), (4, .int x4), (5, .int x5), (6, .int x6)] [] := by
  unfold md_cheapest_56b at h
  refine sv_iload hC dX6_cheapest_56 4 rfl ?_
  refine sv_bipush hC (v := 22) dX6_cheapest_58 (by decide) ?_
  refine sv_icmp_ge hC (tgt := 125) dX6_cheapest_60 (by decide) (fun c8 => ?_) (fun c8 => ?_)
  · have h := sv_it c8 h
    refine sv_iload_n hC dX6_cheapest_125 1 rfl rfl ?_
    refine sv_if_ne hC (tgt := 134) dX6_cheapest_126 (by decide) (fun c9 => ?_) (fun c9 => ?_)
    · have h := sv_if c9 h
      refine sv_iload hC dX6_cheapest_134 3 rfl ?_
      exact sv_iret hC hQ dX6_cheapest_136 (by have e := Option.some.inj h; subst e; exact ⟨rfl, rfl⟩)
    · have h := sv_it c9 h
      refine sv_iload hC dX6_cheapest_129 2 rfl ?_
      refine sv_goto hC (tgt := 136) dX6_cheapest_131 (by decide) ?_
      exact sv_iret hC hQ dX6_cheapest_136 (by have e := Option.some.inj h; subst e; exact ⟨rfl, rfl⟩)
  · have h := sv_if c8 h
    refine sv_aload_n hC dX6_cheapest_63 0 rfl rfl ?_
    refine sv_iload hC dX6_cheapest_64 4 rfl ?_
    refine sv_put hC in_X6 tyX6 tyX6_ok nmX6 0 rfl rfl 28 (by decide) q1084 rfl rfl rfl rfl (Nat.le_of_ble_eq_true rfl) (Xq := MW (sg_dA Γ) ho a (ms_s σ 28 x6)) rfl dX6_cheapest_66 ?_
    refine sv_aload_n hC dX6_cheapest_69 0 rfl rfl ?_
    refine sv_bipush hC (v := 15) dX6_cheapest_70 (by decide) ?_
    obtain ⟨p10, ep10, h⟩ := sv_ob h
    refine sv_wVi (nn := 1) hC (met_md_lossOf hC.F ho a 15 (ms_s σ 28 x6) ep10) 0 0 rfl rfl rfl (lw_V q1332 q1334 qs43 q62 q1335) (by decide +kernel) ⟨by decide, by decide⟩ ⟨rfl, rfl⟩ rfl rfl (Nat.le_of_ble_eq_true rfl) ⟨Nat.le_refl 0, Nat.le_refl 0⟩ dX6_cheapest_72 ?_
    refine sv_aload_n hC dX6_cheapest_75 0 rfl rfl ?_
    refine sv_get hC in_X6 0 rfl rfl 15 (by decide) q1071 rfl (v := .int (p10.2.1 15)) rfl dX6_cheapest_76 ?_
    refine sv_imul hC dX6_cheapest_79 ?_
    refine sv_aload_n hC dX6_cheapest_80 0 rfl rfl ?_
    obtain ⟨r11, er11, h⟩ := sv_ob h
    refine sv_wVi (nn := 0) hC (met_md_wages hC.F ho a p10.2 er11) 0 0 rfl rfl rfl (lw_V q1336 q1338 qs44 q62 q1339) (by decide +kernel) ⟨by decide, by decide⟩ ⟨rfl, rfl⟩ rfl rfl (Nat.le_of_ble_eq_true rfl) ⟨Nat.le_refl 0, Nat.le_refl 0⟩ dX6_cheapest_81 ?_
    refine sv_iadd hC dX6_cheapest_84 ?_
    refine sv_istore hC dX6_cheapest_85 (by decide) (lvq := [(7, .int ((p10.1 * (p10.2.1 15)) + r11)), (0, .ref ho), (3, .int x3), (4, .int x4), (5, .int x5), (6, .int x6)]) rfl ?_
    refine sv_iload hC dX6_cheapest_87 0 rfl ?_
    refine sv_iload hC dX6_cheapest_89 4 rfl ?_
    refine sv_icmp_ge hC (tgt := 99) dX6_cheapest_91 (by decide) (fun c12 => ?_) (fun c12 => ?_)
    · have h := sv_it c12 h
      refine sv_iload hC dX6_cheapest_99 3 rfl ?_
      refine sv_loc [1, 2, 4, 5, 0] (lvq := [(0, .ref ho), (3, .int x3), (5, .int x5), (6, .int x6), (7, .int ((p10.1 * (p10.2.1 15)) + r11))]) rfl ?_
      exact wk_md_cheapest_101 ho a hC hQ rk_56 hk_56 x3 x5 x6 ((p10.1 * (p10.2.1 15)) + r11) x4 p10.2 h
    · have h := sv_if c12 h
      refine sv_iload hC dX6_cheapest_94 5 rfl ?_
      refine sv_goto hC (tgt := 101) dX6_cheapest_96 (by decide) ?_
      refine sv_loc [1, 2, 4, 5, 0] (lvq := [(0, .ref ho), (3, .int x3), (5, .int x5), (6, .int x6), (7, .int ((p10.1 * (p10.2.1 15)) + r11))]) rfl ?_
      exact wk_md_cheapest_101 ho a hC hQ rk_56 hk_56 x3 x5 x6 ((p10.1 * (p10.2.1 15)) + r11) x6 p10.2 h
set_option maxHeartbeats 2000000 in
theorem wk_md_cheapest_56 {Γ : sv_G} (ho : Nat) (a : Nat → Nat) (hC : sv_C Γ cX6_cheapest 8 RX6 (some .int) rm_X6_cheapest) {r0 : Int32 × MSt} (hQ : sv_RQ Γ (sv_pI r0.1 (MW (sg_dA Γ) ho a r0.2)) 0 0)  : ∀ (n : Nat) (x3 : Int32) (x4 : Int32) (x5 : Int32) (x6 : Int32) (σ : MSt)  (h : md_cheapest_56 n x3 x4 x5 x6 σ = some r0), sv_V Γ (MW (sg_dA Γ) ho a σ) 0 0 56 [(0, .ref ho), (3, .int x3), (4, .int x4), (5, .int x5), (6, .int x6)] [] := by
  intro n
  induction n with
  | zero => intro x3 x4 x5 x6 σ h; cases h
  | succ n ih => intro x3 x4 x5 x6 σ h; exact wk_md_cheapest_56b ho a hC hQ (md_cheapest_56 n) ih x3 x4 x5 x6 σ h
set_option maxHeartbeats 2000000 in
theorem wk_md_cheapest {Γ : sv_G} (ho : Nat) (a : Nat → Nat) (hC : sv_C Γ cX6_cheapest 8 RX6 (some .int) rm_X6_cheapest) {r0 : Int32 × MSt} (hQ : sv_RQ Γ (sv_pI r0.1 (MW (sg_dA Γ) ho a r0.2)) 0 0) (x1 : Int32) (x2 : Int32) (x3 : Int32) (σ : MSt) (h : md_cheapest x1 x2 x3 σ = some r0) : sv_V Γ (MW (sg_dA Γ) ho a σ) 0 0 0 [(0, .ref ho), (1, .int x1), (2, .int x2), (3, .int x3)] [] := by
  unfold md_cheapest at h
  refine sv_aload_n hC dX6_cheapest_0 0 rfl rfl ?_
  refine sv_iload_n hC dX6_cheapest_1 1 rfl rfl ?_
  obtain ⟨r1, er1, h⟩ := sv_ob h
  refine sv_wVi (nn := 1) hC (met_md_isCoat hC.F ho a σ x1 er1) 0 0 rfl rfl rfl (lw_V q1258 q1260 qs32 q62 q1261) (by decide +kernel) ⟨by decide, by decide⟩ ⟨rfl, rfl⟩ rfl rfl (Nat.le_of_ble_eq_true rfl) ⟨Nat.le_refl 0, Nat.le_refl 0⟩ dX6_cheapest_2 ?_
  refine sv_if_eq hC (tgt := 16) dX6_cheapest_5 (by decide) (fun c2 => ?_) (fun c2 => ?_)
  · have h := sv_it c2 h
    refine sv_bipush hC (v := (-2)) dX6_cheapest_16 (by decide) ?_
    exact sv_iret hC hQ dX6_cheapest_18 (by have e := Option.some.inj h; subst e; exact ⟨rfl, rfl⟩)
  · have h := sv_if c2 h
    refine sv_aload_n hC dX6_cheapest_8 0 rfl rfl ?_
    refine sv_iload_n hC dX6_cheapest_9 2 rfl rfl ?_
    obtain ⟨r3, er3, h⟩ := sv_ob h
    refine sv_wVi (nn := 1) hC (met_md_isField hC.F ho a σ x2 er3) 0 0 rfl rfl rfl (lw_V q1238 q1240 qs30 q62 q1241) (by decide +kernel) ⟨by decide, by decide⟩ ⟨rfl, rfl⟩ rfl rfl (Nat.le_of_ble_eq_true rfl) ⟨Nat.le_refl 0, Nat.le_refl 0⟩ dX6_cheapest_10 ?_
    refine sv_if_ne hC (tgt := 19) dX6_cheapest_13 (by decide) (fun c4 => ?_) (fun c4 => ?_)
    · have h := sv_if c4 h
      refine sv_iload_n hC dX6_cheapest_19 3 rfl rfl ?_
      refine sv_i2l hC dX6_cheapest_20 ?_
      refine sv_lconst hC (v := 0) dX6_cheapest_21 (by decide) ?_
      refine sv_lconst hC (v := 1) dX6_cheapest_22 (by decide) ?_
      obtain ⟨r5, er5, h⟩ := sv_ob h
      refine sv_pSi (nn := 3) hC (met_md_in hC.F x3.toInt64 0 1 er5) (lw_S q1182 q1183 q62 q1184) (by decide +kernel) ⟨by decide, by decide⟩ ⟨rfl, rfl⟩ rfl rfl (Nat.le_of_ble_eq_true rfl) ⟨Nat.le_refl 0, Nat.le_refl 0⟩ dX6_cheapest_23 ?_
      refine sv_if_ne hC (tgt := 32) dX6_cheapest_26 (by decide) (fun c6 => ?_) (fun c6 => ?_)
      · have h := sv_if c6 h
        refine sv_aload_n hC dX6_cheapest_32 0 rfl rfl ?_
        obtain ⟨s7, es7, h⟩ := sv_ob h
        refine sv_wVv (nn := 0) hC (met_md_asPlanned hC.F ho a σ es7) 0 0 rfl rfl rfl (lw_V q1280 q1282 qs34 q62 q1283) (by decide +kernel) ⟨by decide, by decide⟩ ⟨rfl, rfl⟩ rfl rfl (Nat.le_of_ble_eq_true rfl) ⟨Nat.le_refl 0, Nat.le_refl 0⟩ dX6_cheapest_33 ?_
        refine sv_aload_n hC dX6_cheapest_36 0 rfl rfl ?_
        refine sv_iload_n hC dX6_cheapest_37 1 rfl rfl ?_
        refine sv_put hC in_X6 tyX6 tyX6_ok nmX6 0 rfl rfl 26 (by decide) q1082 rfl rfl rfl rfl (Nat.le_of_ble_eq_true rfl) (Xq := MW (sg_dA Γ) ho a (ms_s s7 26 x1)) rfl dX6_cheapest_38 ?_
        refine sv_aload_n hC dX6_cheapest_41 0 rfl rfl ?_
        refine sv_iload_n hC dX6_cheapest_42 2 rfl rfl ?_
        refine sv_put hC in_X6 tyX6 tyX6_ok nmX6 0 rfl rfl 27 (by decide) q1083 rfl rfl rfl rfl (Nat.le_of_ble_eq_true rfl) (Xq := MW (sg_dA Γ) ho a (ms_s (ms_s s7 26 x1) 27 x2)) rfl dX6_cheapest_43 ?_
        refine sv_iconst hC (v := 0) dX6_cheapest_46 (by decide) ?_
        refine sv_istore hC dX6_cheapest_47 (by decide) (lvq := [(4, .int 0), (0, .ref ho), (1, .int x1), (2, .int x2), (3, .int x3)]) rfl ?_
        refine sv_ldc hC dX6_cheapest_49 q1055 ?_
        refine sv_istore hC dX6_cheapest_51 (by decide) (lvq := [(5, .int 268435456), (4, .int 0), (0, .ref ho), (1, .int x1), (2, .int x2), (3, .int x3)]) rfl ?_
        refine sv_iconst hC (v := 0) dX6_cheapest_53 (by decide) ?_
        refine sv_istore hC dX6_cheapest_54 (by decide) (lvq := [(6, .int 0), (5, .int 268435456), (4, .int 0), (0, .ref ho), (1, .int x1), (2, .int x2), (3, .int x3)]) rfl ?_
        refine sv_loc [3, 6, 2, 1, 0] (lvq := [(0, .ref ho), (3, .int x3), (4, .int 0), (5, .int 268435456), (6, .int 0)]) rfl ?_
        exact wk_md_cheapest_56 ho a hC hQ sv_FU x3 0 268435456 0 (ms_s (ms_s s7 26 x1) 27 x2) h
      · have h := sv_it c6 h
        refine sv_bipush hC (v := (-3)) dX6_cheapest_29 (by decide) ?_
        exact sv_iret hC hQ dX6_cheapest_31 (by have e := Option.some.inj h; subst e; exact ⟨rfl, rfl⟩)
    · have h := sv_it c4 h
      refine sv_bipush hC (v := (-2)) dX6_cheapest_16 (by decide) ?_
      exact sv_iret hC hQ dX6_cheapest_18 (by have e := Option.some.inj h; subst e; exact ⟨rfl, rfl⟩)
set_option maxHeartbeats 2000000 in
theorem met_md_cheapest {l : Launch} {s0 : State} {D : va_G} {dA : Nat → ClassId} (hF : sv_F s0 D dA) (ho : Nat) (a : Nat → Nat) (x1 : Int32) (x2 : Int32) (x3 : Int32) (σ : MSt) {r0 : Int32 × MSt} (h : md_cheapest x1 x2 x3 σ = some r0) : sv_M l s0 D yX6_cheapest cX6_cheapest 8 (some .int) rm_X6_cheapest [.ref ho, .int x1, .int x2, .int x3] (MW dA ho a σ) (sv_pI r0.1 (MW dA ho a r0.2)) :=
  sv_met hF (by decide) (Nat.le_of_ble_eq_true rfl) (fun Γ hC hQ hmn e1 e2 e3 e4 => by
    subst e1 e2 e3 e4
    exact wk_md_cheapest ho a hC hQ x1 x2 x3 σ h)
set_option maxHeartbeats 2000000 in
theorem wk_md_alone {Γ : sv_G} (ho : Nat) (a : Nat → Nat) (hC : sv_C Γ cX6_alone 2 RX6 (some .int) rm_X6_alone) {r0 : Int32 × MSt} (hQ : sv_RQ Γ (sv_pI r0.1 (MW (sg_dA Γ) ho a r0.2)) 0 0) (x1 : Int32) (σ : MSt) (h : md_alone x1 σ = some r0) : sv_V Γ (MW (sg_dA Γ) ho a σ) 0 0 0 [(0, .ref ho), (1, .int x1)] [] := by
  unfold md_alone at h
  refine sv_aload_n hC dX6_alone_0 0 rfl rfl ?_
  obtain ⟨s1, es1, h⟩ := sv_ob h
  refine sv_wVv (nn := 0) hC (met_md_asPlanned hC.F ho a σ es1) 0 0 rfl rfl rfl (lw_V q1280 q1282 qs34 q62 q1283) (by decide +kernel) ⟨by decide, by decide⟩ ⟨rfl, rfl⟩ rfl rfl (Nat.le_of_ble_eq_true rfl) ⟨Nat.le_refl 0, Nat.le_refl 0⟩ dX6_alone_1 ?_
  refine sv_aload_n hC dX6_alone_4 0 rfl rfl ?_
  refine sv_iload_n hC dX6_alone_5 1 rfl rfl ?_
  refine sv_put hC in_X6 tyX6 tyX6_ok nmX6 0 rfl rfl 24 (by decide) q1080 rfl rfl rfl rfl (Nat.le_of_ble_eq_true rfl) (Xq := MW (sg_dA Γ) ho a (ms_s s1 24 x1)) rfl dX6_alone_6 ?_
  refine sv_aload_n hC dX6_alone_9 0 rfl rfl ?_
  refine sv_bipush hC (v := 15) dX6_alone_10 (by decide) ?_
  obtain ⟨p2, ep2, h⟩ := sv_ob h
  refine sv_wVi (nn := 1) hC (met_md_lossOf hC.F ho a 15 (ms_s s1 24 x1) ep2) 0 0 rfl rfl rfl (lw_V q1332 q1334 qs43 q62 q1335) (by decide +kernel) ⟨by decide, by decide⟩ ⟨rfl, rfl⟩ rfl rfl (Nat.le_of_ble_eq_true rfl) ⟨Nat.le_refl 0, Nat.le_refl 0⟩ dX6_alone_12 ?_
  exact sv_iret hC hQ dX6_alone_15 (by have e := Option.some.inj h; subst e; exact ⟨rfl, rfl⟩)
set_option maxHeartbeats 2000000 in
theorem met_md_alone {l : Launch} {s0 : State} {D : va_G} {dA : Nat → ClassId} (hF : sv_F s0 D dA) (ho : Nat) (a : Nat → Nat) (x1 : Int32) (σ : MSt) {r0 : Int32 × MSt} (h : md_alone x1 σ = some r0) : sv_M l s0 D yX6_alone cX6_alone 2 (some .int) rm_X6_alone [.ref ho, .int x1] (MW dA ho a σ) (sv_pI r0.1 (MW dA ho a r0.2)) :=
  sv_met hF (by decide) (Nat.le_of_ble_eq_true rfl) (fun Γ hC hQ hmn e1 e2 e3 e4 => by
    subst e1 e2 e3 e4
    exact wk_md_alone ho a hC hQ x1 σ h)
set_option maxHeartbeats 2000000 in
theorem wk_md_saved {Γ : sv_G} (ho : Nat) (a : Nat → Nat) (hC : sv_C Γ cX6_saved 2 RX6 (some .int) rm_X6_saved) {r0 : Int32 × MSt} (hQ : sv_RQ Γ (sv_pI r0.1 (MW (sg_dA Γ) ho a r0.2)) 0 0) (x1 : Int32) (σ : MSt) (h : md_saved x1 σ = some r0) : sv_V Γ (MW (sg_dA Γ) ho a σ) 0 0 0 [(0, .ref ho), (1, .int x1)] [] := by
  unfold md_saved at h
  refine sv_iload_n hC dX6_saved_0 1 rfl rfl ?_
  refine sv_i2l hC dX6_saved_1 ?_
  refine sv_lconst hC (v := 0) dX6_saved_2 (by decide) ?_
  refine sv_ldc2 hC dX6_saved_3 q1381 ?_
  obtain ⟨r1, er1, h⟩ := sv_ob h
  refine sv_pSi (nn := 3) hC (met_md_in hC.F x1.toInt64 0 15 er1) (lw_S q1182 q1183 q62 q1184) (by decide +kernel) ⟨by decide, by decide⟩ ⟨rfl, rfl⟩ rfl rfl (Nat.le_of_ble_eq_true rfl) ⟨Nat.le_refl 0, Nat.le_refl 0⟩ dX6_saved_6 ?_
  refine sv_if_eq hC (tgt := 30) dX6_saved_9 (by decide) (fun c2 => ?_) (fun c2 => ?_)
  · have h := sv_it c2 h
    refine sv_bipush hC (v := (-3)) dX6_saved_30 (by decide) ?_
    exact sv_iret hC hQ dX6_saved_32 (by have e := Option.some.inj h; subst e; exact ⟨rfl, rfl⟩)
  · have h := sv_if c2 h
    refine sv_aload_n hC dX6_saved_12 0 rfl rfl ?_
    refine sv_iconst hC (v := 0) dX6_saved_13 (by decide) ?_
    obtain ⟨p3, ep3, h⟩ := sv_ob h
    refine sv_wVi (nn := 1) hC (met_md_alone hC.F ho a 0 σ ep3) 0 0 rfl rfl rfl (lw_V q1382 q1384 qs49 q62 q1385) (by decide +kernel) ⟨by decide, by decide⟩ ⟨rfl, rfl⟩ rfl rfl (Nat.le_of_ble_eq_true rfl) ⟨Nat.le_refl 0, Nat.le_refl 0⟩ dX6_saved_14 ?_
    refine sv_aload_n hC dX6_saved_17 0 rfl rfl ?_
    refine sv_iload_n hC dX6_saved_18 1 rfl rfl ?_
    obtain ⟨p4, ep4, h⟩ := sv_ob h
    refine sv_wVi (nn := 1) hC (met_md_alone hC.F ho a x1 p3.2 ep4) 0 0 rfl rfl rfl (lw_V q1382 q1384 qs49 q62 q1385) (by decide +kernel) ⟨by decide, by decide⟩ ⟨rfl, rfl⟩ rfl rfl (Nat.le_of_ble_eq_true rfl) ⟨Nat.le_refl 0, Nat.le_refl 0⟩ dX6_saved_19 ?_
    refine sv_isub hC dX6_saved_22 ?_
    refine sv_ldcw hC dX6_saved_23 q1386 ?_
    refine sv_iadd hC dX6_saved_26 ?_
    refine sv_goto hC (tgt := 32) dX6_saved_27 (by decide) ?_
    exact sv_iret hC hQ dX6_saved_32 (by have e := Option.some.inj h; subst e; exact ⟨rfl, rfl⟩)
set_option maxHeartbeats 2000000 in
theorem met_md_saved {l : Launch} {s0 : State} {D : va_G} {dA : Nat → ClassId} (hF : sv_F s0 D dA) (ho : Nat) (a : Nat → Nat) (x1 : Int32) (σ : MSt) {r0 : Int32 × MSt} (h : md_saved x1 σ = some r0) : sv_M l s0 D yX6_saved cX6_saved 2 (some .int) rm_X6_saved [.ref ho, .int x1] (MW dA ho a σ) (sv_pI r0.1 (MW dA ho a r0.2)) :=
  sv_met hF (by decide) (Nat.le_of_ble_eq_true rfl) (fun Γ hC hQ hmn e1 e2 e3 e4 => by
    subst e1 e2 e3 e4
    exact wk_md_saved ho a hC hQ x1 σ h)
set_option maxHeartbeats 2000000 in
theorem wk_md_orders {Γ : sv_G}  (hC : sv_C Γ cX6_orders 1 RX6 (some .int) rm_X6_orders) {r0 : Int32} (hQ : sv_RQ Γ (sv_pI r0 []) 0 0) (x0 : Int32) (h : md_orders x0 = some r0) : sv_V Γ ([]) 0 0 0 [(0, .int x0)] [] := by
  unfold md_orders at h
  refine sv_iload_n hC dX6_orders_0 0 rfl rfl ?_
  refine sv_if_eq hC (tgt := 9) dX6_orders_1 (by decide) (fun c1 => ?_) (fun c1 => ?_)
  · have h := sv_it c1 h
    refine sv_bipush hC (v := 6) dX6_orders_9 (by decide) ?_
    refine sv_goto hC (tgt := 15) dX6_orders_11 (by decide) ?_
    exact sv_iret hC hQ dX6_orders_15 (by have e := Option.some.inj h; subst e; exact ⟨rfl, rfl⟩)
  · have h := sv_if c1 h
    refine sv_iload_n hC dX6_orders_4 0 rfl rfl ?_
    refine sv_iconst hC (v := 3) dX6_orders_5 (by decide) ?_
    refine sv_icmp_ne hC (tgt := 14) dX6_orders_6 (by decide) (fun c2 => ?_) (fun c2 => ?_)
    · have h := sv_if c2 h
      refine sv_iconst hC (v := 2) dX6_orders_14 (by decide) ?_
      exact sv_iret hC hQ dX6_orders_15 (by have e := Option.some.inj h; subst e; exact ⟨rfl, rfl⟩)
    · have h := sv_it c2 h
      refine sv_bipush hC (v := 6) dX6_orders_9 (by decide) ?_
      refine sv_goto hC (tgt := 15) dX6_orders_11 (by decide) ?_
      exact sv_iret hC hQ dX6_orders_15 (by have e := Option.some.inj h; subst e; exact ⟨rfl, rfl⟩)
set_option maxHeartbeats 2000000 in
theorem met_md_orders {l : Launch} {s0 : State} {D : va_G} {dA : Nat → ClassId} (hF : sv_F s0 D dA)  (x0 : Int32) {r0 : Int32} (h : md_orders x0 = some r0) : sv_M l s0 D yX6_orders cX6_orders 1 (some .int) rm_X6_orders [.int x0] ([]) (sv_pI r0 []) :=
  sv_met hF (by decide) (Nat.le_of_ble_eq_true rfl) (fun Γ hC hQ hmn e1 e2 e3 e4 => by
    subst e1 e2 e3 e4
    exact wk_md_orders hC hQ x0 h)
set_option maxHeartbeats 2000000 in
theorem wk_md_divisor_17b {Γ : sv_G}  (hC : sv_C Γ cX6_divisor 10 RX6 (some .long) rm_X6_divisor) {r0 : Int64} (hQ : sv_RQ Γ (sv_pL r0 []) 0 0)  (rk_17 : Int64 → Int64 → Option Int64) (hk_17 : ∀ (x4 : Int64) (x6 : Int64), rk_17 x4 x6 = some r0 → sv_V Γ ([]) 0 0 17 [(4, .long x4), (6, .long x6)] []) (x4 : Int64) (x6 : Int64)  (h : md_divisor_17b rk_17 x4 x6 = some r0) : sv_V Γ ([]) 0 0 17 [(4, .long x4), (6, .long x6)] [] := by
  unfold md_divisor_17b at h
  refine sv_lload hC dX6_divisor_17 1 rfl ?_
  refine sv_lconst hC (v := 0) dX6_divisor_19 (by decide) ?_
  refine sv_lcmp hC dX6_divisor_20 ?_
  refine sv_if_eq hC (tgt := 42) dX6_divisor_21 (by decide) (fun c2 => ?_) (fun c2 => ?_)
  · have h := sv_it c2 h
    refine sv_lload hC dX6_divisor_42 0 rfl ?_
    exact sv_lret hC hQ dX6_divisor_44 (by have e := Option.some.inj h; subst e; exact ⟨rfl, rfl⟩)
  · have h := sv_if c2 h
    refine sv_lload hC dX6_divisor_24 0 rfl ?_
    refine sv_lload hC dX6_divisor_26 1 rfl ?_
    obtain ⟨gd, h⟩ := sv_gn h
    refine sv_lrem hC dX6_divisor_28 gd ?_
    refine sv_lstore hC dX6_divisor_29 (by decide) (lvq := [(8, .long (x4 - x4 / x6 * x6)), (4, .long x4), (6, .long x6)]) rfl ?_
    refine sv_lload hC dX6_divisor_31 2 rfl ?_
    refine sv_lstore hC dX6_divisor_33 (by decide) (lvq := [(4, .long x6), (8, .long (x4 - x4 / x6 * x6)), (6, .long x6)]) rfl ?_
    refine sv_lload hC dX6_divisor_35 1 rfl ?_
    refine sv_lstore hC dX6_divisor_37 (by decide) (lvq := [(6, .long (x4 - x4 / x6 * x6)), (4, .long x6), (8, .long (x4 - x4 / x6 * x6))]) rfl ?_
    refine sv_goto hC (tgt := 17) dX6_divisor_39 (by decide) ?_
    refine sv_loc [1, 0] (lvq := [(4, .long x6), (6, .long (x4 - x4 / x6 * x6))]) rfl ?_
    exact hk_17 x6 (x4 - x4 / x6 * x6) h
set_option maxHeartbeats 2000000 in
theorem wk_md_divisor_17 {Γ : sv_G}  (hC : sv_C Γ cX6_divisor 10 RX6 (some .long) rm_X6_divisor) {r0 : Int64} (hQ : sv_RQ Γ (sv_pL r0 []) 0 0)  : ∀ (n : Nat) (x4 : Int64) (x6 : Int64)  (h : md_divisor_17 n x4 x6 = some r0), sv_V Γ ([]) 0 0 17 [(4, .long x4), (6, .long x6)] [] := by
  intro n
  induction n with
  | zero => intro x4 x6 h; cases h
  | succ n ih => intro x4 x6 h; exact wk_md_divisor_17b hC hQ (md_divisor_17 n) ih x4 x6 h
set_option maxHeartbeats 2000000 in
theorem wk_md_divisor {Γ : sv_G}  (hC : sv_C Γ cX6_divisor 10 RX6 (some .long) rm_X6_divisor) {r0 : Int64} (hQ : sv_RQ Γ (sv_pL r0 []) 0 0) (x0 : Int64) (x2 : Int64) (h : md_divisor x0 x2 = some r0) : sv_V Γ ([]) 0 0 0 [(0, .long x0), (2, .long x2)] [] := by
  unfold md_divisor at h
  refine sv_lload_n hC dX6_divisor_0 0 rfl rfl ?_
  refine sv_lconst hC (v := 0) dX6_divisor_1 (by decide) ?_
  refine sv_lcmp hC dX6_divisor_2 ?_
  refine sv_if_ge hC (tgt := 11) dX6_divisor_3 (by decide) (fun c1 => ?_) (fun c1 => ?_)
  · have h := sv_it c1 h
    refine sv_lload_n hC dX6_divisor_11 0 rfl rfl ?_
    refine sv_lstore hC dX6_divisor_12 (by decide) (lvq := [(4, .long x0), (0, .long x0), (2, .long x2)]) rfl ?_
    refine sv_lload_n hC dX6_divisor_14 2 rfl rfl ?_
    refine sv_lstore hC dX6_divisor_15 (by decide) (lvq := [(6, .long x2), (4, .long x0), (0, .long x0), (2, .long x2)]) rfl ?_
    refine sv_loc [1, 0] (lvq := [(4, .long x0), (6, .long x2)]) rfl ?_
    exact wk_md_divisor_17 hC hQ sv_FU x0 x2 h
  · have h := sv_if c1 h
    refine sv_lload_n hC dX6_divisor_6 0 rfl rfl ?_
    refine sv_lneg hC dX6_divisor_7 ?_
    refine sv_goto hC (tgt := 12) dX6_divisor_8 (by decide) ?_
    refine sv_lstore hC dX6_divisor_12 (by decide) (lvq := [(4, .long (-x0)), (0, .long x0), (2, .long x2)]) rfl ?_
    refine sv_lload_n hC dX6_divisor_14 2 rfl rfl ?_
    refine sv_lstore hC dX6_divisor_15 (by decide) (lvq := [(6, .long x2), (4, .long (-x0)), (0, .long x0), (2, .long x2)]) rfl ?_
    refine sv_loc [1, 0] (lvq := [(4, .long (-x0)), (6, .long x2)]) rfl ?_
    exact wk_md_divisor_17 hC hQ sv_FU (-x0) x2 h
set_option maxHeartbeats 2000000 in
theorem met_md_divisor {l : Launch} {s0 : State} {D : va_G} {dA : Nat → ClassId} (hF : sv_F s0 D dA)  (x0 : Int64) (x2 : Int64) {r0 : Int64} (h : md_divisor x0 x2 = some r0) : sv_M l s0 D yX6_divisor cX6_divisor 10 (some .long) rm_X6_divisor [.long x0, .long x2] ([]) (sv_pL r0 []) :=
  sv_met hF (by decide) (Nat.le_of_ble_eq_true rfl) (fun Γ hC hQ hmn e1 e2 e3 e4 => by
    subst e1 e2 e3 e4
    exact wk_md_divisor hC hQ x0 x2 h)
set_option maxHeartbeats 2000000 in
theorem wk_md_fair_58b {Γ : sv_G} (ho : Nat) (a : Nat → Nat) (hC : sv_C Γ cX6_fair 8 RX6 (some .int) rm_X6_fair) {r0 : Int32 × MSt} (hQ : sv_RQ Γ (sv_pI r0.1 (MW (sg_dA Γ) ho a r0.2)) 0 0)  (rk_58 : Int32 → Int32 → Int32 → Int32 → MSt → Option (Int32 × MSt)) (hk_58 : ∀ (x1 : Int32) (x2 : Int32) (x3 : Int32) (x4 : Int32) (σ : MSt), rk_58 x1 x2 x3 x4 σ = some r0 → sv_V Γ (MW (sg_dA Γ) ho a σ) 0 0 58 [(0, .ref ho), (1, .int x1), (2, .int x2), (3, .int x3), (4, .int x4)] []) (x1 : Int32) (x2 : Int32) (x3 : Int32) (x4 : Int32) (σ : MSt)  (h : md_fair_58b rk_58 x1 x2 x3 x4 σ = some r0) : sv_V Γ (MW (sg_dA Γ) ho a σ) 0 0 58 [(0, .ref ho), (1, .int x1), (2, .int x2), (3, .int x3), (4, .int x4)] [] := by
  unfold md_fair_58b at h
  refine sv_iload hC dX6_fair_58 4 rfl ?_
  refine sv_bipush hC (v := 16) dX6_fair_60 (by decide) ?_
  refine sv_icmp_ge hC (tgt := 139) dX6_fair_62 (by decide) (fun c8 => ?_) (fun c8 => ?_)
  · have h := sv_it c8 h
    refine sv_iload_n hC dX6_fair_139 3 rfl rfl ?_
    refine sv_i2l hC dX6_fair_140 ?_
    refine sv_ldc2 hC dX6_fair_141 q1394 ?_
    refine sv_ladd hC dX6_fair_144 ?_
    refine sv_lstore hC dX6_fair_145 (by decide) (lvq := [(4, .long (x3.toInt64 + 2400000)), (0, .ref ho), (1, .int x1), (2, .int x2), (3, .int x3)]) rfl ?_
    refine sv_lload hC dX6_fair_147 0 rfl ?_
    refine sv_ldc2 hC dX6_fair_149 q1395 ?_
    obtain ⟨r9, er9, h⟩ := sv_ob h
    refine sv_pSl (nn := 2) hC (met_md_divisor hC.F (x3.toInt64 + 2400000) 24 er9) (lw_S q1396 q1397 q62 q1398) (by decide +kernel) ⟨by decide, by decide⟩ ⟨rfl, rfl⟩ rfl rfl (Nat.le_of_ble_eq_true rfl) ⟨Nat.le_refl 0, Nat.le_refl 0⟩ dX6_fair_152 ?_
    refine sv_lstore hC dX6_fair_155 (by decide) (lvq := [(6, .long r9), (4, .long (x3.toInt64 + 2400000)), (0, .ref ho), (1, .int x1), (2, .int x2), (3, .int x3)]) rfl ?_
    refine sv_iload_n hC dX6_fair_157 4 rfl rfl ?_
    refine sv_if_ne hC (tgt := 169) dX6_fair_158 (by decide) (fun c10 => ?_) (fun c10 => ?_)
    · have h := sv_if c10 h
      refine sv_ldc2 hC dX6_fair_169 q1395 ?_
      refine sv_lload hC dX6_fair_172 0 rfl ?_
      obtain ⟨gd, h⟩ := sv_gn h
      refine sv_ldiv hC dX6_fair_174 gd ?_
      refine sv_l2i hC dX6_fair_175 ?_
      exact sv_iret hC hQ dX6_fair_176 (by have e := Option.some.inj h; subst e; exact ⟨rfl, rfl⟩)
    · have h := sv_it c10 h
      refine sv_lload hC dX6_fair_161 1 rfl ?_
      refine sv_lload hC dX6_fair_163 0 rfl ?_
      obtain ⟨gd, h⟩ := sv_gn h
      refine sv_ldiv hC dX6_fair_165 gd ?_
      refine sv_goto hC (tgt := 175) dX6_fair_166 (by decide) ?_
      refine sv_l2i hC dX6_fair_175 ?_
      exact sv_iret hC hQ dX6_fair_176 (by have e := Option.some.inj h; subst e; exact ⟨rfl, rfl⟩)
  · have h := sv_if c8 h
    refine sv_iload hC dX6_fair_65 4 rfl ?_
    refine sv_iconst hC (v := 1) dX6_fair_67 (by decide) ?_
    refine sv_iand hC dX6_fair_68 ?_
    refine sv_iload hC dX6_fair_69 4 rfl ?_
    refine sv_iconst hC (v := 1) dX6_fair_71 (by decide) ?_
    refine sv_ishr hC dX6_fair_72 ?_
    refine sv_iconst hC (v := 1) dX6_fair_73 (by decide) ?_
    refine sv_iand hC dX6_fair_74 ?_
    refine sv_iadd hC dX6_fair_75 ?_
    refine sv_iload hC dX6_fair_76 4 rfl ?_
    refine sv_iconst hC (v := 2) dX6_fair_78 (by decide) ?_
    refine sv_ishr hC dX6_fair_79 ?_
    refine sv_iconst hC (v := 1) dX6_fair_80 (by decide) ?_
    refine sv_iand hC dX6_fair_81 ?_
    refine sv_iadd hC dX6_fair_82 ?_
    refine sv_iload hC dX6_fair_83 4 rfl ?_
    refine sv_iconst hC (v := 3) dX6_fair_85 (by decide) ?_
    refine sv_ishr hC dX6_fair_86 ?_
    refine sv_iconst hC (v := 1) dX6_fair_87 (by decide) ?_
    refine sv_iand hC dX6_fair_88 ?_
    refine sv_iadd hC dX6_fair_89 ?_
    refine sv_istore hC dX6_fair_90 (by decide) (lvq := [(5, .int ((((x4 &&& 1) + ((x4 >>> ((1 : Int32) &&& 31)) &&& 1)) + ((x4 >>> ((2 : Int32) &&& 31)) &&& 1)) + ((x4 >>> ((3 : Int32) &&& 31)) &&& 1))), (0, .ref ho), (1, .int x1), (2, .int x2), (3, .int x3), (4, .int x4)]) rfl ?_
    refine sv_iload_n hC dX6_fair_92 4 rfl rfl ?_
    refine sv_iload hC dX6_fair_93 5 rfl ?_
    refine sv_iload_n hC dX6_fair_95 2 rfl rfl ?_
    obtain ⟨r11, er11, h⟩ := sv_ob h
    refine sv_pSi (nn := 2) hC (met_md_has hC.F x4 x1 er11) (lw_S q1243 q1244 q62 q1245) (by decide +kernel) ⟨by decide, by decide⟩ ⟨rfl, rfl⟩ rfl rfl (Nat.le_of_ble_eq_true rfl) ⟨Nat.le_refl 0, Nat.le_refl 0⟩ dX6_fair_96 ?_
    refine sv_if_eq hC (tgt := 106) dX6_fair_99 (by decide) (fun c12 => ?_) (fun c12 => ?_)
    · have h := sv_it c12 h
      refine sv_iload hC dX6_fair_106 0 rfl ?_
      obtain ⟨r13, er13, h⟩ := sv_ob h
      refine sv_pSi (nn := 1) hC (met_md_orders hC.F ((((x4 &&& 1) + ((x4 >>> ((1 : Int32) &&& 31)) &&& 1)) + ((x4 >>> ((2 : Int32) &&& 31)) &&& 1)) + ((x4 >>> ((3 : Int32) &&& 31)) &&& 1)) er13) (lw_S q1391 q1392 q62 q1393) (by decide +kernel) ⟨by decide, by decide⟩ ⟨rfl, rfl⟩ rfl rfl (Nat.le_of_ble_eq_true rfl) ⟨Nat.le_refl 0, Nat.le_refl 0⟩ dX6_fair_108 ?_
      refine sv_aload_n hC dX6_fair_111 1 rfl rfl ?_
      refine sv_get hC in_X6 0 rfl rfl 39 (by decide) q1095 rfl (v := .ref (a 39)) rfl dX6_fair_112 ?_
      refine sv_iload hC dX6_fair_115 5 rfl ?_
      obtain ⟨j14, ej14, h⟩ := sv_ob h
      refine sv_iald hC 19 (f := σ.2 39) rfl rfl (j := j14) ej14 dX6_fair_117 ?_
      refine sv_aload_n hC dX6_fair_118 1 rfl rfl ?_
      refine sv_get hC in_X6 0 rfl rfl 39 (by decide) q1095 rfl (v := .ref (a 39)) rfl dX6_fair_119 ?_
      refine sv_iload hC dX6_fair_122 5 rfl ?_
      refine sv_iconst hC (v := 1) dX6_fair_124 (by decide) ?_
      refine sv_iload_n hC dX6_fair_125 2 rfl rfl ?_
      refine sv_ishl hC dX6_fair_126 ?_
      refine sv_ior hC dX6_fair_127 ?_
      obtain ⟨j15, ej15, h⟩ := sv_ob h
      refine sv_iald hC 19 (f := σ.2 39) rfl rfl (j := j15) ej15 dX6_fair_128 ?_
      refine sv_isub hC dX6_fair_129 ?_
      refine sv_imul hC dX6_fair_130 ?_
      refine sv_iadd hC dX6_fair_131 ?_
      refine sv_istore_n hC dX6_fair_132 rfl (by decide) (lvq := [(3, .int (x3 + (r13 * ((σ.2 39 j14) - (σ.2 39 j15))))), (5, .int ((((x4 &&& 1) + ((x4 >>> ((1 : Int32) &&& 31)) &&& 1)) + ((x4 >>> ((2 : Int32) &&& 31)) &&& 1)) + ((x4 >>> ((3 : Int32) &&& 31)) &&& 1))), (0, .ref ho), (1, .int x1), (2, .int x2), (4, .int x4)]) rfl ?_
      refine sv_iinc hC (v := x4 + 1) dX6_fair_133 5 rfl rfl (by decide) (lvq := [(4, .int (x4 + 1)), (3, .int (x3 + (r13 * ((σ.2 39 j14) - (σ.2 39 j15))))), (5, .int ((((x4 &&& 1) + ((x4 >>> ((1 : Int32) &&& 31)) &&& 1)) + ((x4 >>> ((2 : Int32) &&& 31)) &&& 1)) + ((x4 >>> ((3 : Int32) &&& 31)) &&& 1))), (0, .ref ho), (1, .int x1), (2, .int x2)]) rfl ?_
      refine sv_goto hC (tgt := 58) dX6_fair_136 (by decide) ?_
      refine sv_loc [3, 4, 5, 1, 0] (lvq := [(0, .ref ho), (1, .int x1), (2, .int x2), (3, .int (x3 + (r13 * ((σ.2 39 j14) - (σ.2 39 j15))))), (4, .int (x4 + 1))]) rfl ?_
      exact hk_58 x1 x2 (x3 + (r13 * ((σ.2 39 j14) - (σ.2 39 j15)))) (x4 + 1) σ h
    · have h := sv_if c12 h
      refine sv_iconst hC (v := 0) dX6_fair_102 (by decide) ?_
      refine sv_goto hC (tgt := 131) dX6_fair_103 (by decide) ?_
      refine sv_iadd hC dX6_fair_131 ?_
      refine sv_istore_n hC dX6_fair_132 rfl (by decide) (lvq := [(3, .int (x3 + 0)), (5, .int ((((x4 &&& 1) + ((x4 >>> ((1 : Int32) &&& 31)) &&& 1)) + ((x4 >>> ((2 : Int32) &&& 31)) &&& 1)) + ((x4 >>> ((3 : Int32) &&& 31)) &&& 1))), (0, .ref ho), (1, .int x1), (2, .int x2), (4, .int x4)]) rfl ?_
      refine sv_iinc hC (v := x4 + 1) dX6_fair_133 5 rfl rfl (by decide) (lvq := [(4, .int (x4 + 1)), (3, .int (x3 + 0)), (5, .int ((((x4 &&& 1) + ((x4 >>> ((1 : Int32) &&& 31)) &&& 1)) + ((x4 >>> ((2 : Int32) &&& 31)) &&& 1)) + ((x4 >>> ((3 : Int32) &&& 31)) &&& 1))), (0, .ref ho), (1, .int x1), (2, .int x2)]) rfl ?_
      refine sv_goto hC (tgt := 58) dX6_fair_136 (by decide) ?_
      refine sv_loc [3, 4, 5, 1, 0] (lvq := [(0, .ref ho), (1, .int x1), (2, .int x2), (3, .int (x3 + 0)), (4, .int (x4 + 1))]) rfl ?_
      exact hk_58 x1 x2 (x3 + 0) (x4 + 1) σ h
set_option maxHeartbeats 2000000 in
theorem wk_md_fair_58 {Γ : sv_G} (ho : Nat) (a : Nat → Nat) (hC : sv_C Γ cX6_fair 8 RX6 (some .int) rm_X6_fair) {r0 : Int32 × MSt} (hQ : sv_RQ Γ (sv_pI r0.1 (MW (sg_dA Γ) ho a r0.2)) 0 0)  : ∀ (n : Nat) (x1 : Int32) (x2 : Int32) (x3 : Int32) (x4 : Int32) (σ : MSt)  (h : md_fair_58 n x1 x2 x3 x4 σ = some r0), sv_V Γ (MW (sg_dA Γ) ho a σ) 0 0 58 [(0, .ref ho), (1, .int x1), (2, .int x2), (3, .int x3), (4, .int x4)] [] := by
  intro n
  induction n with
  | zero => intro x1 x2 x3 x4 σ h; cases h
  | succ n ih => intro x1 x2 x3 x4 σ h; exact wk_md_fair_58b ho a hC hQ (md_fair_58 n) ih x1 x2 x3 x4 σ h
set_option maxHeartbeats 2000000 in
theorem wk_md_fair_30b {Γ : sv_G} (ho : Nat) (a : Nat → Nat) (hC : sv_C Γ cX6_fair 8 RX6 (some .int) rm_X6_fair) {r0 : Int32 × MSt} (hQ : sv_RQ Γ (sv_pI r0.1 (MW (sg_dA Γ) ho a r0.2)) 0 0)  (rk_30 : Int32 → Int32 → Int32 → MSt → Option (Int32 × MSt)) (hk_30 : ∀ (x1 : Int32) (x2 : Int32) (x3 : Int32) (σ : MSt), rk_30 x1 x2 x3 σ = some r0 → sv_V Γ (MW (sg_dA Γ) ho a σ) 0 0 30 [(0, .ref ho), (1, .int x1), (2, .int x2), (3, .int x3)] []) (x1 : Int32) (x2 : Int32) (x3 : Int32) (σ : MSt)  (h : md_fair_30b rk_30 x1 x2 x3 σ = some r0) : sv_V Γ (MW (sg_dA Γ) ho a σ) 0 0 30 [(0, .ref ho), (1, .int x1), (2, .int x2), (3, .int x3)] [] := by
  unfold md_fair_30b at h
  refine sv_iload_n hC dX6_fair_30 3 rfl rfl ?_
  refine sv_bipush hC (v := 16) dX6_fair_31 (by decide) ?_
  refine sv_icmp_ge hC (tgt := 53) dX6_fair_33 (by decide) (fun c5 => ?_) (fun c5 => ?_)
  · have h := sv_it c5 h
    refine sv_iconst hC (v := 0) dX6_fair_53 (by decide) ?_
    refine sv_istore_n hC dX6_fair_54 rfl (by decide) (lvq := [(3, .int 0), (0, .ref ho), (1, .int x1), (2, .int x2)]) rfl ?_
    refine sv_iconst hC (v := 0) dX6_fair_55 (by decide) ?_
    refine sv_istore hC dX6_fair_56 (by decide) (lvq := [(4, .int 0), (3, .int 0), (0, .ref ho), (1, .int x1), (2, .int x2)]) rfl ?_
    refine sv_loc [2, 3, 4, 1, 0] (lvq := [(0, .ref ho), (1, .int x1), (2, .int x2), (3, .int 0), (4, .int 0)]) rfl ?_
    exact wk_md_fair_58 ho a hC hQ sv_FU x1 x2 0 0 σ h
  · have h := sv_if c5 h
    refine sv_aload_n hC dX6_fair_36 0 rfl rfl ?_
    refine sv_get hC in_X6 0 rfl rfl 39 (by decide) q1095 rfl (v := .ref (a 39)) rfl dX6_fair_37 ?_
    refine sv_iload_n hC dX6_fair_40 3 rfl rfl ?_
    refine sv_aload_n hC dX6_fair_41 0 rfl rfl ?_
    refine sv_iload_n hC dX6_fair_42 3 rfl rfl ?_
    obtain ⟨p6, ep6, h⟩ := sv_ob h
    refine sv_wVi (nn := 1) hC (met_md_alone hC.F ho a x3 σ ep6) 0 0 rfl rfl rfl (lw_V q1382 q1384 qs49 q62 q1385) (by decide +kernel) ⟨by decide, by decide⟩ ⟨rfl, rfl⟩ rfl rfl (Nat.le_of_ble_eq_true rfl) ⟨Nat.le_refl 0, Nat.le_refl 0⟩ dX6_fair_43 ?_
    obtain ⟨j7, ej7, h⟩ := sv_ob h
    refine sv_iast hC 19 (f := p6.2.2 39) rfl rfl (j := j7) ej7 (Xq := MW (sg_dA Γ) ho a (ms_a p6.2 39 j7 p6.1)) rfl dX6_fair_46 ?_
    refine sv_iinc hC (v := x3 + 1) dX6_fair_47 3 rfl rfl (by decide) (lvq := [(3, .int (x3 + 1)), (0, .ref ho), (1, .int x1), (2, .int x2)]) rfl ?_
    refine sv_goto hC (tgt := 30) dX6_fair_50 (by decide) ?_
    refine sv_loc [1, 2, 3, 0] (lvq := [(0, .ref ho), (1, .int x1), (2, .int x2), (3, .int (x3 + 1))]) rfl ?_
    exact hk_30 x1 x2 (x3 + 1) (ms_a p6.2 39 j7 p6.1) h
set_option maxHeartbeats 2000000 in
theorem wk_md_fair_30 {Γ : sv_G} (ho : Nat) (a : Nat → Nat) (hC : sv_C Γ cX6_fair 8 RX6 (some .int) rm_X6_fair) {r0 : Int32 × MSt} (hQ : sv_RQ Γ (sv_pI r0.1 (MW (sg_dA Γ) ho a r0.2)) 0 0)  : ∀ (n : Nat) (x1 : Int32) (x2 : Int32) (x3 : Int32) (σ : MSt)  (h : md_fair_30 n x1 x2 x3 σ = some r0), sv_V Γ (MW (sg_dA Γ) ho a σ) 0 0 30 [(0, .ref ho), (1, .int x1), (2, .int x2), (3, .int x3)] [] := by
  intro n
  induction n with
  | zero => intro x1 x2 x3 σ h; cases h
  | succ n ih => intro x1 x2 x3 σ h; exact wk_md_fair_30b ho a hC hQ (md_fair_30 n) ih x1 x2 x3 σ h
set_option maxHeartbeats 2000000 in
theorem wk_md_fair {Γ : sv_G} (ho : Nat) (a : Nat → Nat) (hC : sv_C Γ cX6_fair 8 RX6 (some .int) rm_X6_fair) {r0 : Int32 × MSt} (hQ : sv_RQ Γ (sv_pI r0.1 (MW (sg_dA Γ) ho a r0.2)) 0 0) (x1 : Int32) (x2 : Int32) (σ : MSt) (h : md_fair x1 x2 σ = some r0) : sv_V Γ (MW (sg_dA Γ) ho a σ) 0 0 0 [(0, .ref ho), (1, .int x1), (2, .int x2)] [] := by
  unfold md_fair at h
  refine sv_iload_n hC dX6_fair_0 1 rfl rfl ?_
  refine sv_i2l hC dX6_fair_1 ?_
  refine sv_lconst hC (v := 0) dX6_fair_2 (by decide) ?_
  refine sv_ldc2 hC dX6_fair_3 q1242 ?_
  obtain ⟨r1, er1, h⟩ := sv_ob h
  refine sv_pSi (nn := 3) hC (met_md_in hC.F x1.toInt64 0 3 er1) (lw_S q1182 q1183 q62 q1184) (by decide +kernel) ⟨by decide, by decide⟩ ⟨rfl, rfl⟩ rfl rfl (Nat.le_of_ble_eq_true rfl) ⟨Nat.le_refl 0, Nat.le_refl 0⟩ dX6_fair_6 ?_
  refine sv_if_ne hC (tgt := 15) dX6_fair_9 (by decide) (fun c2 => ?_) (fun c2 => ?_)
  · have h := sv_if c2 h
    refine sv_iload_n hC dX6_fair_15 2 rfl rfl ?_
    refine sv_i2l hC dX6_fair_16 ?_
    refine sv_lconst hC (v := 0) dX6_fair_17 (by decide) ?_
    refine sv_lconst hC (v := 1) dX6_fair_18 (by decide) ?_
    obtain ⟨r3, er3, h⟩ := sv_ob h
    refine sv_pSi (nn := 3) hC (met_md_in hC.F x2.toInt64 0 1 er3) (lw_S q1182 q1183 q62 q1184) (by decide +kernel) ⟨by decide, by decide⟩ ⟨rfl, rfl⟩ rfl rfl (Nat.le_of_ble_eq_true rfl) ⟨Nat.le_refl 0, Nat.le_refl 0⟩ dX6_fair_19 ?_
    refine sv_if_ne hC (tgt := 28) dX6_fair_22 (by decide) (fun c4 => ?_) (fun c4 => ?_)
    · have h := sv_if c4 h
      refine sv_iconst hC (v := 0) dX6_fair_28 (by decide) ?_
      refine sv_istore_n hC dX6_fair_29 rfl (by decide) (lvq := [(3, .int 0), (0, .ref ho), (1, .int x1), (2, .int x2)]) rfl ?_
      refine sv_loc [1, 2, 3, 0] (lvq := [(0, .ref ho), (1, .int x1), (2, .int x2), (3, .int 0)]) rfl ?_
      exact wk_md_fair_30 ho a hC hQ sv_FU x1 x2 0 σ h
    · have h := sv_it c4 h
      refine sv_bipush hC (v := (-3)) dX6_fair_25 (by decide) ?_
      exact sv_iret hC hQ dX6_fair_27 (by have e := Option.some.inj h; subst e; exact ⟨rfl, rfl⟩)
  · have h := sv_it c2 h
    refine sv_bipush hC (v := (-2)) dX6_fair_12 (by decide) ?_
    exact sv_iret hC hQ dX6_fair_14 (by have e := Option.some.inj h; subst e; exact ⟨rfl, rfl⟩)
set_option maxHeartbeats 2000000 in
theorem met_md_fair {l : Launch} {s0 : State} {D : va_G} {dA : Nat → ClassId} (hF : sv_F s0 D dA) (ho : Nat) (a : Nat → Nat) (x1 : Int32) (x2 : Int32) (σ : MSt) {r0 : Int32 × MSt} (h : md_fair x1 x2 σ = some r0) : sv_M l s0 D yX6_fair cX6_fair 8 (some .int) rm_X6_fair [.ref ho, .int x1, .int x2] (MW dA ho a σ) (sv_pI r0.1 (MW dA ho a r0.2)) :=
  sv_met hF (by decide) (Nat.le_of_ble_eq_true rfl) (fun Γ hC hQ hmn e1 e2 e3 e4 => by
    subst e1 e2 e3 e4
    exact wk_md_fair ho a hC hQ x1 x2 σ h)
set_option maxHeartbeats 2000000 in
theorem wk_md_free {Γ : sv_G} (ho : Nat) (a : Nat → Nat) (hC : sv_C Γ cX6_free 3 RX6 (some .int) rm_X6_free) {r0 : Int32 × MSt} (hQ : sv_RQ Γ (sv_pI r0.1 (MW (sg_dA Γ) ho a r0.2)) 0 0) (x1 : Int32) (σ : MSt) (h : md_free x1 σ = some r0) : sv_V Γ (MW (sg_dA Γ) ho a σ) 0 0 0 [(0, .ref ho), (1, .int x1)] [] := by
  unfold md_free at h
  refine sv_iload_n hC dX6_free_0 1 rfl rfl ?_
  refine sv_i2l hC dX6_free_1 ?_
  refine sv_lconst hC (v := 0) dX6_free_2 (by decide) ?_
  refine sv_ldc2 hC dX6_free_3 q1242 ?_
  obtain ⟨r1, er1, h⟩ := sv_ob h
  refine sv_pSi (nn := 3) hC (met_md_in hC.F x1.toInt64 0 3 er1) (lw_S q1182 q1183 q62 q1184) (by decide +kernel) ⟨by decide, by decide⟩ ⟨rfl, rfl⟩ rfl rfl (Nat.le_of_ble_eq_true rfl) ⟨Nat.le_refl 0, Nat.le_refl 0⟩ dX6_free_6 ?_
  refine sv_if_ne hC (tgt := 15) dX6_free_9 (by decide) (fun c2 => ?_) (fun c2 => ?_)
  · have h := sv_if c2 h
    refine sv_aload_n hC dX6_free_15 0 rfl rfl ?_
    obtain ⟨s3, es3, h⟩ := sv_ob h
    refine sv_wVv (nn := 0) hC (met_md_asPlanned hC.F ho a σ es3) 0 0 rfl rfl rfl (lw_V q1280 q1282 qs34 q62 q1283) (by decide +kernel) ⟨by decide, by decide⟩ ⟨rfl, rfl⟩ rfl rfl (Nat.le_of_ble_eq_true rfl) ⟨Nat.le_refl 0, Nat.le_refl 0⟩ dX6_free_16 ?_
    refine sv_aload_n hC dX6_free_19 0 rfl rfl ?_
    refine sv_bipush hC (v := 15) dX6_free_20 (by decide) ?_
    refine sv_iconst hC (v := 1) dX6_free_22 (by decide) ?_
    refine sv_iload_n hC dX6_free_23 1 rfl rfl ?_
    refine sv_ishl hC dX6_free_24 ?_
    refine sv_iconst hC (v := (-1)) dX6_free_25 (by decide) ?_
    refine sv_ixor hC dX6_free_26 ?_
    refine sv_iand hC dX6_free_27 ?_
    refine sv_put hC in_X6 tyX6 tyX6_ok nmX6 0 rfl rfl 24 (by decide) q1080 rfl rfl rfl rfl (Nat.le_of_ble_eq_true rfl) (Xq := MW (sg_dA Γ) ho a (ms_s s3 24 (15 &&& (((1 : Int32) <<< (x1 &&& 31)) ^^^ (-1))))) rfl dX6_free_28 ?_
    refine sv_aload_n hC dX6_free_31 0 rfl rfl ?_
    refine sv_iconst hC (v := 1) dX6_free_32 (by decide) ?_
    refine sv_iload_n hC dX6_free_33 1 rfl rfl ?_
    refine sv_ishl hC dX6_free_34 ?_
    obtain ⟨p4, ep4, h⟩ := sv_ob h
    refine sv_wVi (nn := 1) hC (met_md_lossOf hC.F ho a ((1 : Int32) <<< (x1 &&& 31)) (ms_s s3 24 (15 &&& (((1 : Int32) <<< (x1 &&& 31)) ^^^ (-1)))) ep4) 0 0 rfl rfl rfl (lw_V q1332 q1334 qs43 q62 q1335) (by decide +kernel) ⟨by decide, by decide⟩ ⟨rfl, rfl⟩ rfl rfl (Nat.le_of_ble_eq_true rfl) ⟨Nat.le_refl 0, Nat.le_refl 0⟩ dX6_free_35 ?_
    refine sv_istore_n hC dX6_free_38 rfl (by decide) (lvq := [(2, .int p4.1), (0, .ref ho), (1, .int x1)]) rfl ?_
    refine sv_aload_n hC dX6_free_39 1 rfl rfl ?_
    refine sv_iconst hC (v := 0) dX6_free_40 (by decide) ?_
    refine sv_put hC in_X6 tyX6 tyX6_ok nmX6 0 rfl rfl 24 (by decide) q1080 rfl rfl rfl rfl (Nat.le_of_ble_eq_true rfl) (Xq := MW (sg_dA Γ) ho a (ms_s p4.2 24 0)) rfl dX6_free_41 ?_
    refine sv_iload_n hC dX6_free_44 0 rfl rfl ?_
    refine sv_aload_n hC dX6_free_45 1 rfl rfl ?_
    refine sv_iconst hC (v := 1) dX6_free_46 (by decide) ?_
    refine sv_iload_n hC dX6_free_47 2 rfl rfl ?_
    refine sv_ishl hC dX6_free_48 ?_
    obtain ⟨p5, ep5, h⟩ := sv_ob h
    refine sv_wVi (nn := 1) hC (met_md_lossOf hC.F ho a ((1 : Int32) <<< (x1 &&& 31)) (ms_s p4.2 24 0) ep5) 0 0 rfl rfl rfl (lw_V q1332 q1334 qs43 q62 q1335) (by decide +kernel) ⟨by decide, by decide⟩ ⟨rfl, rfl⟩ rfl rfl (Nat.le_of_ble_eq_true rfl) ⟨Nat.le_refl 0, Nat.le_refl 0⟩ dX6_free_49 ?_
    refine sv_isub hC dX6_free_52 ?_
    refine sv_ldcw hC dX6_free_53 q1386 ?_
    refine sv_iadd hC dX6_free_56 ?_
    exact sv_iret hC hQ dX6_free_57 (by have e := Option.some.inj h; subst e; exact ⟨rfl, rfl⟩)
  · have h := sv_it c2 h
    refine sv_bipush hC (v := (-2)) dX6_free_12 (by decide) ?_
    exact sv_iret hC hQ dX6_free_14 (by have e := Option.some.inj h; subst e; exact ⟨rfl, rfl⟩)
set_option maxHeartbeats 2000000 in
theorem met_md_free {l : Launch} {s0 : State} {D : va_G} {dA : Nat → ClassId} (hF : sv_F s0 D dA) (ho : Nat) (a : Nat → Nat) (x1 : Int32) (σ : MSt) {r0 : Int32 × MSt} (h : md_free x1 σ = some r0) : sv_M l s0 D yX6_free cX6_free 3 (some .int) rm_X6_free [.ref ho, .int x1] (MW dA ho a σ) (sv_pI r0.1 (MW dA ho a r0.2)) :=
  sv_met hF (by decide) (Nat.le_of_ble_eq_true rfl) (fun Γ hC hQ hmn e1 e2 e3 e4 => by
    subst e1 e2 e3 e4
    exact wk_md_free ho a hC hQ x1 σ h)
set_option maxHeartbeats 2000000 in
theorem wk_md_matters_15b {Γ : sv_G} (ho : Nat) (a : Nat → Nat) (hC : sv_C Γ cX6_matters 4 RX6 (some .int) rm_X6_matters) {r0 : Int32 × MSt} (hQ : sv_RQ Γ (sv_pI r0.1 (MW (sg_dA Γ) ho a r0.2)) 0 0)  (rk_15 : Int32 → Int32 → Int32 → MSt → Option (Int32 × MSt)) (hk_15 : ∀ (x1 : Int32) (x2 : Int32) (x3 : Int32) (σ : MSt), rk_15 x1 x2 x3 σ = some r0 → sv_V Γ (MW (sg_dA Γ) ho a σ) 0 0 15 [(0, .ref ho), (1, .int x1), (2, .int x2), (3, .int x3)] []) (x1 : Int32) (x2 : Int32) (x3 : Int32) (σ : MSt)  (h : md_matters_15b rk_15 x1 x2 x3 σ = some r0) : sv_V Γ (MW (sg_dA Γ) ho a σ) 0 0 15 [(0, .ref ho), (1, .int x1), (2, .int x2), (3, .int x3)] [] := by
  unfold md_matters_15b at h
  refine sv_iload_n hC dX6_matters_15 3 rfl rfl ?_
  refine sv_iconst hC (v := 4) dX6_matters_16 (by decide) ?_
  refine sv_icmp_ge hC (tgt := 62) dX6_matters_17 (by decide) (fun c3 => ?_) (fun c3 => ?_)
  · have h := sv_it c3 h
    refine sv_iload_n hC dX6_matters_62 2 rfl rfl ?_
    exact sv_iret hC hQ dX6_matters_63 (by have e := Option.some.inj h; subst e; exact ⟨rfl, rfl⟩)
  · have h := sv_if c3 h
    refine sv_aload_n hC dX6_matters_20 0 rfl rfl ?_
    refine sv_iload_n hC dX6_matters_21 3 rfl rfl ?_
    refine sv_put hC in_X6 tyX6 tyX6_ok nmX6 0 rfl rfl 25 (by decide) q1081 rfl rfl rfl rfl (Nat.le_of_ble_eq_true rfl) (Xq := MW (sg_dA Γ) ho a (ms_s σ 25 x3)) rfl dX6_matters_22 ?_
    refine sv_iload_n hC dX6_matters_25 2 rfl rfl ?_
    refine sv_aload_n hC dX6_matters_26 0 rfl rfl ?_
    refine sv_get hC in_X6 0 rfl rfl 10 (by decide) q1066 rfl (v := .int (σ.1 10)) rfl dX6_matters_27 ?_
    refine sv_iload_n hC dX6_matters_30 3 rfl rfl ?_
    obtain ⟨r4, er4, h⟩ := sv_ob h
    refine sv_pSi (nn := 2) hC (met_md_has hC.F (σ.1 10) x3 er4) (lw_S q1243 q1244 q62 q1245) (by decide +kernel) ⟨by decide, by decide⟩ ⟨rfl, rfl⟩ rfl rfl (Nat.le_of_ble_eq_true rfl) ⟨Nat.le_refl 0, Nat.le_refl 0⟩ dX6_matters_31 ?_
    refine sv_if_eq hC (tgt := 53) dX6_matters_34 (by decide) (fun c5 => ?_) (fun c5 => ?_)
    · have h := sv_it c5 h
      refine sv_iconst hC (v := 0) dX6_matters_53 (by decide) ?_
      refine sv_ior hC dX6_matters_54 ?_
      refine sv_istore_n hC dX6_matters_55 rfl (by decide) (lvq := [(2, .int (x2 ||| 0)), (0, .ref ho), (1, .int x1), (3, .int x3)]) rfl ?_
      refine sv_iinc hC (v := x3 + 1) dX6_matters_56 3 rfl rfl (by decide) (lvq := [(3, .int (x3 + 1)), (2, .int (x2 ||| 0)), (0, .ref ho), (1, .int x1)]) rfl ?_
      refine sv_goto hC (tgt := 15) dX6_matters_59 (by decide) ?_
      refine sv_loc [2, 3, 1, 0] (lvq := [(0, .ref ho), (1, .int x1), (2, .int (x2 ||| 0)), (3, .int (x3 + 1))]) rfl ?_
      exact hk_15 x1 (x2 ||| 0) (x3 + 1) (ms_s σ 25 x3) h
    · have h := sv_if c5 h
      refine sv_aload_n hC dX6_matters_37 0 rfl rfl ?_
      refine sv_bipush hC (v := 15) dX6_matters_38 (by decide) ?_
      obtain ⟨p6, ep6, h⟩ := sv_ob h
      refine sv_wVi (nn := 1) hC (met_md_lossOf hC.F ho a 15 (ms_s σ 25 x3) ep6) 0 0 rfl rfl rfl (lw_V q1332 q1334 qs43 q62 q1335) (by decide +kernel) ⟨by decide, by decide⟩ ⟨rfl, rfl⟩ rfl rfl (Nat.le_of_ble_eq_true rfl) ⟨Nat.le_refl 0, Nat.le_refl 0⟩ dX6_matters_40 ?_
      refine sv_iload_n hC dX6_matters_43 1 rfl rfl ?_
      refine sv_icmp_eq hC (tgt := 53) dX6_matters_44 (by decide) (fun c7 => ?_) (fun c7 => ?_)
      · have h := sv_it c7 h
        refine sv_iconst hC (v := 0) dX6_matters_53 (by decide) ?_
        refine sv_ior hC dX6_matters_54 ?_
        refine sv_istore_n hC dX6_matters_55 rfl (by decide) (lvq := [(2, .int (x2 ||| 0)), (0, .ref ho), (1, .int x1), (3, .int x3)]) rfl ?_
        refine sv_iinc hC (v := x3 + 1) dX6_matters_56 3 rfl rfl (by decide) (lvq := [(3, .int (x3 + 1)), (2, .int (x2 ||| 0)), (0, .ref ho), (1, .int x1)]) rfl ?_
        refine sv_goto hC (tgt := 15) dX6_matters_59 (by decide) ?_
        refine sv_loc [2, 3, 1, 0] (lvq := [(0, .ref ho), (1, .int x1), (2, .int (x2 ||| 0)), (3, .int (x3 + 1))]) rfl ?_
        exact hk_15 x1 (x2 ||| 0) (x3 + 1) p6.2 h
      · have h := sv_if c7 h
        refine sv_iconst hC (v := 1) dX6_matters_47 (by decide) ?_
        refine sv_iload_n hC dX6_matters_48 3 rfl rfl ?_
        refine sv_ishl hC dX6_matters_49 ?_
        refine sv_goto hC (tgt := 54) dX6_matters_50 (by decide) ?_
        refine sv_ior hC dX6_matters_54 ?_
        refine sv_istore_n hC dX6_matters_55 rfl (by decide) (lvq := [(2, .int (x2 ||| ((1 : Int32) <<< (x3 &&& 31)))), (0, .ref ho), (1, .int x1), (3, .int x3)]) rfl ?_
        refine sv_iinc hC (v := x3 + 1) dX6_matters_56 3 rfl rfl (by decide) (lvq := [(3, .int (x3 + 1)), (2, .int (x2 ||| ((1 : Int32) <<< (x3 &&& 31)))), (0, .ref ho), (1, .int x1)]) rfl ?_
        refine sv_goto hC (tgt := 15) dX6_matters_59 (by decide) ?_
        refine sv_loc [2, 3, 1, 0] (lvq := [(0, .ref ho), (1, .int x1), (2, .int (x2 ||| ((1 : Int32) <<< (x3 &&& 31)))), (3, .int (x3 + 1))]) rfl ?_
        exact hk_15 x1 (x2 ||| ((1 : Int32) <<< (x3 &&& 31))) (x3 + 1) p6.2 h
set_option maxHeartbeats 2000000 in
theorem wk_md_matters_15 {Γ : sv_G} (ho : Nat) (a : Nat → Nat) (hC : sv_C Γ cX6_matters 4 RX6 (some .int) rm_X6_matters) {r0 : Int32 × MSt} (hQ : sv_RQ Γ (sv_pI r0.1 (MW (sg_dA Γ) ho a r0.2)) 0 0)  : ∀ (n : Nat) (x1 : Int32) (x2 : Int32) (x3 : Int32) (σ : MSt)  (h : md_matters_15 n x1 x2 x3 σ = some r0), sv_V Γ (MW (sg_dA Γ) ho a σ) 0 0 15 [(0, .ref ho), (1, .int x1), (2, .int x2), (3, .int x3)] [] := by
  intro n
  induction n with
  | zero => intro x1 x2 x3 σ h; cases h
  | succ n ih => intro x1 x2 x3 σ h; exact wk_md_matters_15b ho a hC hQ (md_matters_15 n) ih x1 x2 x3 σ h
set_option maxHeartbeats 2000000 in
theorem wk_md_matters {Γ : sv_G} (ho : Nat) (a : Nat → Nat) (hC : sv_C Γ cX6_matters 4 RX6 (some .int) rm_X6_matters) {r0 : Int32 × MSt} (hQ : sv_RQ Γ (sv_pI r0.1 (MW (sg_dA Γ) ho a r0.2)) 0 0) (σ : MSt) (h : md_matters σ = some r0) : sv_V Γ (MW (sg_dA Γ) ho a σ) 0 0 0 [(0, .ref ho)] [] := by
  unfold md_matters at h
  refine sv_aload_n hC dX6_matters_0 0 rfl rfl ?_
  obtain ⟨s1, es1, h⟩ := sv_ob h
  refine sv_wVv (nn := 0) hC (met_md_asPlanned hC.F ho a σ es1) 0 0 rfl rfl rfl (lw_V q1280 q1282 qs34 q62 q1283) (by decide +kernel) ⟨by decide, by decide⟩ ⟨rfl, rfl⟩ rfl rfl (Nat.le_of_ble_eq_true rfl) ⟨Nat.le_refl 0, Nat.le_refl 0⟩ dX6_matters_1 ?_
  refine sv_aload_n hC dX6_matters_4 0 rfl rfl ?_
  refine sv_bipush hC (v := 15) dX6_matters_5 (by decide) ?_
  obtain ⟨p2, ep2, h⟩ := sv_ob h
  refine sv_wVi (nn := 1) hC (met_md_lossOf hC.F ho a 15 s1 ep2) 0 0 rfl rfl rfl (lw_V q1332 q1334 qs43 q62 q1335) (by decide +kernel) ⟨by decide, by decide⟩ ⟨rfl, rfl⟩ rfl rfl (Nat.le_of_ble_eq_true rfl) ⟨Nat.le_refl 0, Nat.le_refl 0⟩ dX6_matters_7 ?_
  refine sv_istore_n hC dX6_matters_10 rfl (by decide) (lvq := [(1, .int p2.1), (0, .ref ho)]) rfl ?_
  refine sv_iconst hC (v := 0) dX6_matters_11 (by decide) ?_
  refine sv_istore_n hC dX6_matters_12 rfl (by decide) (lvq := [(2, .int 0), (1, .int p2.1), (0, .ref ho)]) rfl ?_
  refine sv_iconst hC (v := 0) dX6_matters_13 (by decide) ?_
  refine sv_istore_n hC dX6_matters_14 rfl (by decide) (lvq := [(3, .int 0), (2, .int 0), (1, .int p2.1), (0, .ref ho)]) rfl ?_
  refine sv_loc [3, 2, 1, 0] (lvq := [(0, .ref ho), (1, .int p2.1), (2, .int 0), (3, .int 0)]) rfl ?_
  exact wk_md_matters_15 ho a hC hQ sv_FU p2.1 0 0 p2.2 h
set_option maxHeartbeats 2000000 in
theorem met_md_matters {l : Launch} {s0 : State} {D : va_G} {dA : Nat → ClassId} (hF : sv_F s0 D dA) (ho : Nat) (a : Nat → Nat) (σ : MSt) {r0 : Int32 × MSt} (h : md_matters σ = some r0) : sv_M l s0 D yX6_matters cX6_matters 4 (some .int) rm_X6_matters [.ref ho] (MW dA ho a σ) (sv_pI r0.1 (MW dA ho a r0.2)) :=
  sv_met hF (by decide) (Nat.le_of_ble_eq_true rfl) (fun Γ hC hQ hmn e1 e2 e3 e4 => by
    subst e1 e2 e3 e4
    exact wk_md_matters ho a hC hQ σ h)
set_option maxHeartbeats 2000000 in
theorem wk_md_counted {Γ : sv_G} (ho : Nat) (a : Nat → Nat) (hC : sv_C Γ cX6_counted 4 RX6 (some .int) rm_X6_counted) {r0 : Int32 × MSt} (hQ : sv_RQ Γ (sv_pI r0.1 (MW (sg_dA Γ) ho a r0.2)) 0 0) (x1 : Int32) (x2 : Int32) (x3 : Int32) (σ : MSt) (h : md_counted x1 x2 x3 σ = some r0) : sv_V Γ (MW (sg_dA Γ) ho a σ) 0 0 0 [(0, .ref ho), (1, .int x1), (2, .int x2), (3, .int x3)] [] := by
  unfold md_counted at h
  refine sv_iload_n hC dX6_counted_0 1 rfl rfl ?_
  refine sv_i2l hC dX6_counted_1 ?_
  refine sv_lconst hC (v := 0) dX6_counted_2 (by decide) ?_
  refine sv_ldc2 hC dX6_counted_3 q1266 ?_
  obtain ⟨r1, er1, h⟩ := sv_ob h
  refine sv_pSi (nn := 3) hC (met_md_in hC.F x1.toInt64 0 20 er1) (lw_S q1182 q1183 q62 q1184) (by decide +kernel) ⟨by decide, by decide⟩ ⟨rfl, rfl⟩ rfl rfl (Nat.le_of_ble_eq_true rfl) ⟨Nat.le_refl 0, Nat.le_refl 0⟩ dX6_counted_6 ?_
  refine sv_if_eq hC (tgt := 24) dX6_counted_9 (by decide) (fun c2 => ?_) (fun c2 => ?_)
  · have h := sv_it c2 h
    refine sv_bipush hC (v := (-2)) dX6_counted_24 (by decide) ?_
    exact sv_iret hC hQ dX6_counted_26 (by have e := Option.some.inj h; subst e; exact ⟨rfl, rfl⟩)
  · have h := sv_if c2 h
    refine sv_iload_n hC dX6_counted_12 2 rfl rfl ?_
    refine sv_i2l hC dX6_counted_13 ?_
    refine sv_lconst hC (v := 0) dX6_counted_14 (by decide) ?_
    refine sv_ldc2 hC dX6_counted_15 q1242 ?_
    obtain ⟨r3, er3, h⟩ := sv_ob h
    refine sv_pSi (nn := 3) hC (met_md_in hC.F x2.toInt64 0 3 er3) (lw_S q1182 q1183 q62 q1184) (by decide +kernel) ⟨by decide, by decide⟩ ⟨rfl, rfl⟩ rfl rfl (Nat.le_of_ble_eq_true rfl) ⟨Nat.le_refl 0, Nat.le_refl 0⟩ dX6_counted_18 ?_
    refine sv_if_ne hC (tgt := 27) dX6_counted_21 (by decide) (fun c4 => ?_) (fun c4 => ?_)
    · have h := sv_if c4 h
      refine sv_iload_n hC dX6_counted_27 3 rfl rfl ?_
      refine sv_i2l hC dX6_counted_28 ?_
      refine sv_lconst hC (v := 0) dX6_counted_29 (by decide) ?_
      refine sv_ldc2 hC dX6_counted_30 q1368 ?_
      obtain ⟨r5, er5, h⟩ := sv_ob h
      refine sv_pSi (nn := 3) hC (met_md_in hC.F x3.toInt64 0 999 er5) (lw_S q1182 q1183 q62 q1184) (by decide +kernel) ⟨by decide, by decide⟩ ⟨rfl, rfl⟩ rfl rfl (Nat.le_of_ble_eq_true rfl) ⟨Nat.le_refl 0, Nat.le_refl 0⟩ dX6_counted_33 ?_
      refine sv_if_ne hC (tgt := 42) dX6_counted_36 (by decide) (fun c6 => ?_) (fun c6 => ?_)
      · have h := sv_if c6 h
        refine sv_aload_n hC dX6_counted_42 0 rfl rfl ?_
        refine sv_get hC in_X6 0 rfl rfl 20 (by decide) q1076 rfl (v := .int (σ.1 20)) rfl dX6_counted_43 ?_
        refine sv_bipush hC (v := 12) dX6_counted_46 (by decide) ?_
        refine sv_icmp_ne hC (tgt := 54) dX6_counted_48 (by decide) (fun c7 => ?_) (fun c7 => ?_)
        · have h := sv_if c7 h
          refine sv_aload_n hC dX6_counted_54 0 rfl rfl ?_
          refine sv_get hC in_X6 0 rfl rfl 19 (by decide) q1075 rfl (v := .ref (a 19)) rfl dX6_counted_55 ?_
          refine sv_iconst hC (v := 3) dX6_counted_58 (by decide) ?_
          refine sv_aload_n hC dX6_counted_59 0 rfl rfl ?_
          refine sv_get hC in_X6 0 rfl rfl 20 (by decide) q1076 rfl (v := .int (σ.1 20)) rfl dX6_counted_60 ?_
          refine sv_imul hC dX6_counted_63 ?_
          refine sv_iload_n hC dX6_counted_64 1 rfl rfl ?_
          obtain ⟨j8, ej8, h⟩ := sv_ob h
          refine sv_iast hC 11 (f := σ.2 19) rfl rfl (j := j8) ej8 (Xq := MW (sg_dA Γ) ho a (ms_a σ 19 j8 x1)) rfl dX6_counted_65 ?_
          refine sv_aload_n hC dX6_counted_66 0 rfl rfl ?_
          refine sv_get hC in_X6 0 rfl rfl 19 (by decide) q1075 rfl (v := .ref (a 19)) rfl dX6_counted_67 ?_
          refine sv_iconst hC (v := 3) dX6_counted_70 (by decide) ?_
          refine sv_aload_n hC dX6_counted_71 0 rfl rfl ?_
          refine sv_get hC in_X6 0 rfl rfl 20 (by decide) q1076 rfl (v := .int (σ.1 20)) rfl dX6_counted_72 ?_
          refine sv_imul hC dX6_counted_75 ?_
          refine sv_iconst hC (v := 1) dX6_counted_76 (by decide) ?_
          refine sv_iadd hC dX6_counted_77 ?_
          refine sv_iload_n hC dX6_counted_78 2 rfl rfl ?_
          obtain ⟨j9, ej9, h⟩ := sv_ob h
          refine sv_iast hC 11 (f := (ms_a σ 19 j8 x1).2 19) rfl rfl (j := j9) ej9 (Xq := MW (sg_dA Γ) ho a (ms_a (ms_a σ 19 j8 x1) 19 j9 x2)) rfl dX6_counted_79 ?_
          refine sv_aload_n hC dX6_counted_80 0 rfl rfl ?_
          refine sv_get hC in_X6 0 rfl rfl 19 (by decide) q1075 rfl (v := .ref (a 19)) rfl dX6_counted_81 ?_
          refine sv_iconst hC (v := 3) dX6_counted_84 (by decide) ?_
          refine sv_aload_n hC dX6_counted_85 0 rfl rfl ?_
          refine sv_get hC in_X6 0 rfl rfl 20 (by decide) q1076 rfl (v := .int (σ.1 20)) rfl dX6_counted_86 ?_
          refine sv_imul hC dX6_counted_89 ?_
          refine sv_iconst hC (v := 2) dX6_counted_90 (by decide) ?_
          refine sv_iadd hC dX6_counted_91 ?_
          refine sv_iload_n hC dX6_counted_92 3 rfl rfl ?_
          obtain ⟨j10, ej10, h⟩ := sv_ob h
          refine sv_iast hC 11 (f := (ms_a (ms_a σ 19 j8 x1) 19 j9 x2).2 19) rfl rfl (j := j10) ej10 (Xq := MW (sg_dA Γ) ho a (ms_a (ms_a (ms_a σ 19 j8 x1) 19 j9 x2) 19 j10 x3)) rfl dX6_counted_93 ?_
          refine sv_aload_n hC dX6_counted_94 0 rfl rfl ?_
          refine sv_dup hC dX6_counted_95 rfl ?_
          refine sv_get hC in_X6 0 rfl rfl 20 (by decide) q1076 rfl (v := .int (σ.1 20)) rfl dX6_counted_96 ?_
          refine sv_iconst hC (v := 1) dX6_counted_99 (by decide) ?_
          refine sv_iadd hC dX6_counted_100 ?_
          refine sv_put hC in_X6 tyX6 tyX6_ok nmX6 0 rfl rfl 20 (by decide) q1076 rfl rfl rfl rfl (Nat.le_of_ble_eq_true rfl) (Xq := MW (sg_dA Γ) ho a (ms_s (ms_a (ms_a (ms_a σ 19 j8 x1) 19 j9 x2) 19 j10 x3) 20 ((σ.1 20) + 1))) rfl dX6_counted_101 ?_
          refine sv_aload_n hC dX6_counted_104 0 rfl rfl ?_
          refine sv_get hC in_X6 0 rfl rfl 20 (by decide) q1076 rfl (v := .int ((σ.1 20) + 1)) rfl dX6_counted_105 ?_
          exact sv_iret hC hQ dX6_counted_108 (by have e := Option.some.inj h; subst e; exact ⟨rfl, rfl⟩)
        · have h := sv_it c7 h
          refine sv_bipush hC (v := (-5)) dX6_counted_51 (by decide) ?_
          exact sv_iret hC hQ dX6_counted_53 (by have e := Option.some.inj h; subst e; exact ⟨rfl, rfl⟩)
      · have h := sv_it c6 h
        refine sv_bipush hC (v := (-3)) dX6_counted_39 (by decide) ?_
        exact sv_iret hC hQ dX6_counted_41 (by have e := Option.some.inj h; subst e; exact ⟨rfl, rfl⟩)
    · have h := sv_it c4 h
      refine sv_bipush hC (v := (-2)) dX6_counted_24 (by decide) ?_
      exact sv_iret hC hQ dX6_counted_26 (by have e := Option.some.inj h; subst e; exact ⟨rfl, rfl⟩)
set_option maxHeartbeats 2000000 in
theorem met_md_counted {l : Launch} {s0 : State} {D : va_G} {dA : Nat → ClassId} (hF : sv_F s0 D dA) (ho : Nat) (a : Nat → Nat) (x1 : Int32) (x2 : Int32) (x3 : Int32) (σ : MSt) {r0 : Int32 × MSt} (h : md_counted x1 x2 x3 σ = some r0) : sv_M l s0 D yX6_counted cX6_counted 4 (some .int) rm_X6_counted [.ref ho, .int x1, .int x2, .int x3] (MW dA ho a σ) (sv_pI r0.1 (MW dA ho a r0.2)) :=
  sv_met hF (by decide) (Nat.le_of_ble_eq_true rfl) (fun Γ hC hQ hmn e1 e2 e3 e4 => by
    subst e1 e2 e3 e4
    exact wk_md_counted ho a hC hQ x1 x2 x3 σ h)
set_option maxHeartbeats 2000000 in
theorem wk_md_holds_113 {Γ : sv_G} (ho : Nat) (a : Nat → Nat) (hC : sv_C Γ cX6_holds 4 RX6 (some .boolean) rm_X6_holds) {r0 : Int32 × MSt} (hQ : sv_RQ Γ (sv_pI r0.1 (MW (sg_dA Γ) ho a r0.2)) 0 0) (rk_6 : Int32 → MSt → Option (Int32 × MSt)) (hk_6 : ∀ (x1 : Int32) (σ : MSt), rk_6 x1 σ = some r0 → sv_V Γ (MW (sg_dA Γ) ho a σ) 0 0 6 [(0, .ref ho), (1, .int x1)] []) (rk_55 : Int32 → Int32 → MSt → Option (Int32 × MSt)) (hk_55 : ∀ (x1 : Int32) (x2 : Int32) (σ : MSt), rk_55 x1 x2 σ = some r0 → sv_V Γ (MW (sg_dA Γ) ho a σ) 0 0 55 [(0, .ref ho), (1, .int x1), (2, .int x2)] []) (x1 : Int32) (x2 : Int32) (t0 : Int32) (t1 : Int32) (σ : MSt)  (h : md_holds_113 rk_6 rk_55 x1 x2 t0 t1 σ = some r0) : sv_V Γ (MW (sg_dA Γ) ho a σ) 0 0 113 [(0, .ref ho), (1, .int x1), (2, .int x2)] [.int t1, .int t0] := by
  unfold md_holds_113 at h
  refine sv_icmp_eq hC (tgt := 118) dX6_holds_113 (by decide) (fun c16 => ?_) (fun c16 => ?_)
  · have h := sv_it c16 h
    refine sv_iinc hC (v := x2 + 3) dX6_holds_118 2 rfl rfl (by decide) (lvq := [(2, .int (x2 + 3)), (0, .ref ho), (1, .int x1)]) rfl ?_
    refine sv_goto hC (tgt := 55) dX6_holds_121 (by decide) ?_
    refine sv_loc [1, 2, 0] (lvq := [(0, .ref ho), (1, .int x1), (2, .int (x2 + 3))]) rfl ?_
    exact hk_55 x1 (x2 + 3) σ h
  · have h := sv_if c16 h
    refine sv_iconst hC (v := 0) dX6_holds_116 (by decide) ?_
    exact sv_zret hC hQ dX6_holds_117 rfl (by have e := Option.some.inj h; subst e; exact ⟨rfl, rfl⟩)
set_option maxHeartbeats 2000000 in
theorem wk_md_holds_55b {Γ : sv_G} (ho : Nat) (a : Nat → Nat) (hC : sv_C Γ cX6_holds 4 RX6 (some .boolean) rm_X6_holds) {r0 : Int32 × MSt} (hQ : sv_RQ Γ (sv_pI r0.1 (MW (sg_dA Γ) ho a r0.2)) 0 0) (rk_6 : Int32 → MSt → Option (Int32 × MSt)) (hk_6 : ∀ (x1 : Int32) (σ : MSt), rk_6 x1 σ = some r0 → sv_V Γ (MW (sg_dA Γ) ho a σ) 0 0 6 [(0, .ref ho), (1, .int x1)] []) (rk_55 : Int32 → Int32 → MSt → Option (Int32 × MSt)) (hk_55 : ∀ (x1 : Int32) (x2 : Int32) (σ : MSt), rk_55 x1 x2 σ = some r0 → sv_V Γ (MW (sg_dA Γ) ho a σ) 0 0 55 [(0, .ref ho), (1, .int x1), (2, .int x2)] []) (x1 : Int32) (x2 : Int32) (σ : MSt)  (h : md_holds_55b rk_6 rk_55 x1 x2 σ = some r0) : sv_V Γ (MW (sg_dA Γ) ho a σ) 0 0 55 [(0, .ref ho), (1, .int x1), (2, .int x2)] [] := by
  unfold md_holds_55b at h
  refine sv_iload_n hC dX6_holds_55 2 rfl rfl ?_
  refine sv_iconst hC (v := 3) dX6_holds_56 (by decide) ?_
  refine sv_aload_n hC dX6_holds_57 0 rfl rfl ?_
  refine sv_get hC in_X6 0 rfl rfl 20 (by decide) q1076 rfl (v := .int (σ.1 20)) rfl dX6_holds_58 ?_
  refine sv_imul hC dX6_holds_61 ?_
  refine sv_icmp_ge hC (tgt := 124) dX6_holds_62 (by decide) (fun c8 => ?_) (fun c8 => ?_)
  · have h := sv_it c8 h
    refine sv_iinc hC (v := x1 + 1) dX6_holds_124 1 rfl rfl (by decide) (lvq := [(1, .int (x1 + 1)), (0, .ref ho), (2, .int x2)]) rfl ?_
    refine sv_goto hC (tgt := 6) dX6_holds_127 (by decide) ?_
    refine sv_loc [1, 0] (lvq := [(0, .ref ho), (1, .int (x1 + 1))]) rfl ?_
    exact hk_6 (x1 + 1) σ h
  · have h := sv_if c8 h
    refine sv_aload_n hC dX6_holds_65 0 rfl rfl ?_
    refine sv_get hC in_X6 0 rfl rfl 19 (by decide) q1075 rfl (v := .ref (a 19)) rfl dX6_holds_66 ?_
    refine sv_iload_n hC dX6_holds_69 2 rfl rfl ?_
    refine sv_iconst hC (v := 1) dX6_holds_70 (by decide) ?_
    refine sv_iadd hC dX6_holds_71 ?_
    obtain ⟨j9, ej9, h⟩ := sv_ob h
    refine sv_iald hC 11 (f := σ.2 19) rfl rfl (j := j9) ej9 dX6_holds_72 ?_
    refine sv_istore_n hC dX6_holds_73 rfl (by decide) (lvq := [(3, .int (σ.2 19 j9)), (0, .ref ho), (1, .int x1), (2, .int x2)]) rfl ?_
    refine sv_aload_n hC dX6_holds_74 1 rfl rfl ?_
    refine sv_get hC in_X6 0 rfl rfl 19 (by decide) q1075 rfl (v := .ref (a 19)) rfl dX6_holds_75 ?_
    refine sv_iload_n hC dX6_holds_78 3 rfl rfl ?_
    obtain ⟨j10, ej10, h⟩ := sv_ob h
    refine sv_iald hC 11 (f := σ.2 19) rfl rfl (j := j10) ej10 dX6_holds_79 ?_
    refine sv_iload_n hC dX6_holds_80 2 rfl rfl ?_
    refine sv_icmp_ne hC (tgt := 118) dX6_holds_81 (by decide) (fun c11 => ?_) (fun c11 => ?_)
    · have h := sv_if c11 h
      refine sv_iinc hC (v := x2 + 3) dX6_holds_118 3 rfl rfl (by decide) (lvq := [(2, .int (x2 + 3)), (3, .int (σ.2 19 j9)), (0, .ref ho), (1, .int x1)]) rfl ?_
      refine sv_goto hC (tgt := 55) dX6_holds_121 (by decide) ?_
      refine sv_loc [2, 3, 0] (lvq := [(0, .ref ho), (1, .int x1), (2, .int (x2 + 3))]) rfl ?_
      exact hk_55 x1 (x2 + 3) σ h
    · have h := sv_it c11 h
      refine sv_aload_n hC dX6_holds_84 1 rfl rfl ?_
      refine sv_get hC in_X6 0 rfl rfl 19 (by decide) q1075 rfl (v := .ref (a 19)) rfl dX6_holds_85 ?_
      refine sv_iload_n hC dX6_holds_88 3 rfl rfl ?_
      refine sv_iconst hC (v := 2) dX6_holds_89 (by decide) ?_
      refine sv_iadd hC dX6_holds_90 ?_
      obtain ⟨j12, ej12, h⟩ := sv_ob h
      refine sv_iald hC 11 (f := σ.2 19) rfl rfl (j := j12) ej12 dX6_holds_91 ?_
      refine sv_aload_n hC dX6_holds_92 1 rfl rfl ?_
      refine sv_get hC in_X6 0 rfl rfl 4 (by decide) q1060 rfl (v := .int (σ.1 4)) rfl dX6_holds_93 ?_
      refine sv_iload_n hC dX6_holds_96 0 rfl rfl ?_
      obtain ⟨r13, er13, h⟩ := sv_ob h
      refine sv_pSi (nn := 2) hC (met_md_has hC.F (σ.1 4) (σ.2 19 j9) er13) (lw_S q1243 q1244 q62 q1245) (by decide +kernel) ⟨by decide, by decide⟩ ⟨rfl, rfl⟩ rfl rfl (Nat.le_of_ble_eq_true rfl) ⟨Nat.le_refl 0, Nat.le_refl 0⟩ dX6_holds_97 ?_
      refine sv_if_eq hC (tgt := 112) dX6_holds_100 (by decide) (fun c14 => ?_) (fun c14 => ?_)
      · have h := sv_it c14 h
        refine sv_iconst hC (v := 0) dX6_holds_112 (by decide) ?_
        refine sv_loc [1, 2, 3] (lvq := [(0, .ref ho), (1, .int x1), (2, .int x2)]) rfl ?_
        exact wk_md_holds_113 ho a hC hQ rk_6 hk_6 rk_55 hk_55 x1 x2 (σ.2 19 j12) 0 σ h
      · have h := sv_if c14 h
        refine sv_aload_n hC dX6_holds_103 1 rfl rfl ?_
        refine sv_get hC in_X6 0 rfl rfl 36 (by decide) q1092 rfl (v := .ref (a 36)) rfl dX6_holds_104 ?_
        refine sv_iload_n hC dX6_holds_107 0 rfl rfl ?_
        obtain ⟨j15, ej15, h⟩ := sv_ob h
        refine sv_iald hC 16 (f := σ.2 36) rfl rfl (j := j15) ej15 dX6_holds_108 ?_
        refine sv_goto hC (tgt := 113) dX6_holds_109 (by decide) ?_
        refine sv_loc [1, 2, 3] (lvq := [(0, .ref ho), (1, .int x1), (2, .int x2)]) rfl ?_
        exact wk_md_holds_113 ho a hC hQ rk_6 hk_6 rk_55 hk_55 x1 x2 (σ.2 19 j12) (σ.2 36 j15) σ h
set_option maxHeartbeats 2000000 in
theorem wk_md_holds_55 {Γ : sv_G} (ho : Nat) (a : Nat → Nat) (hC : sv_C Γ cX6_holds 4 RX6 (some .boolean) rm_X6_holds) {r0 : Int32 × MSt} (hQ : sv_RQ Γ (sv_pI r0.1 (MW (sg_dA Γ) ho a r0.2)) 0 0) (rk_6 : Int32 → MSt → Option (Int32 × MSt)) (hk_6 : ∀ (x1 : Int32) (σ : MSt), rk_6 x1 σ = some r0 → sv_V Γ (MW (sg_dA Γ) ho a σ) 0 0 6 [(0, .ref ho), (1, .int x1)] []) : ∀ (n : Nat) (x1 : Int32) (x2 : Int32) (σ : MSt)  (h : md_holds_55 rk_6 n x1 x2 σ = some r0), sv_V Γ (MW (sg_dA Γ) ho a σ) 0 0 55 [(0, .ref ho), (1, .int x1), (2, .int x2)] [] := by
  intro n
  induction n with
  | zero => intro x1 x2 σ h; cases h
  | succ n ih => intro x1 x2 σ h; exact wk_md_holds_55b ho a hC hQ rk_6 hk_6 (md_holds_55 rk_6 n) ih x1 x2 σ h
set_option maxHeartbeats 2000000 in
theorem wk_md_holds_40 {Γ : sv_G} (ho : Nat) (a : Nat → Nat) (hC : sv_C Γ cX6_holds 4 RX6 (some .boolean) rm_X6_holds) {r0 : Int32 × MSt} (hQ : sv_RQ Γ (sv_pI r0.1 (MW (sg_dA Γ) ho a r0.2)) 0 0) (rk_6 : Int32 → MSt → Option (Int32 × MSt)) (hk_6 : ∀ (x1 : Int32) (σ : MSt), rk_6 x1 σ = some r0 → sv_V Γ (MW (sg_dA Γ) ho a σ) 0 0 6 [(0, .ref ho), (1, .int x1)] []) (x1 : Int32) (σ : MSt)  (h : md_holds_40 rk_6 x1 σ = some r0) : sv_V Γ (MW (sg_dA Γ) ho a σ) 0 0 40 [(0, .ref ho), (1, .int x1)] [] := by
  unfold md_holds_40 at h
  refine sv_iload_n hC dX6_holds_40 1 rfl rfl ?_
  refine sv_aload_n hC dX6_holds_41 0 rfl rfl ?_
  refine sv_get hC in_X6 0 rfl rfl 16 (by decide) q1072 rfl (v := .int (σ.1 16)) rfl dX6_holds_42 ?_
  refine sv_icmp_ge hC (tgt := 53) dX6_holds_45 (by decide) (fun c6 => ?_) (fun c6 => ?_)
  · have h := sv_it c6 h
    refine sv_iconst hC (v := 0) dX6_holds_53 (by decide) ?_
    refine sv_istore_n hC dX6_holds_54 rfl (by decide) (lvq := [(2, .int 0), (0, .ref ho), (1, .int x1)]) rfl ?_
    refine sv_loc [1, 2, 0] (lvq := [(0, .ref ho), (1, .int x1), (2, .int 0)]) rfl ?_
    exact wk_md_holds_55 ho a hC hQ rk_6 hk_6 sv_FU x1 0 σ h
  · have h := sv_if c6 h
    refine sv_aload_n hC dX6_holds_48 0 rfl rfl ?_
    refine sv_iload_n hC dX6_holds_49 1 rfl rfl ?_
    obtain ⟨s7, es7, h⟩ := sv_ob h
    refine sv_wVv (nn := 1) hC (met_md_goDay hC.F ho a x1 σ es7) 0 0 rfl rfl rfl (lw_V q1292 q1294 qs37 q62 q1295) (by decide +kernel) ⟨by decide, by decide⟩ ⟨rfl, rfl⟩ rfl rfl (Nat.le_of_ble_eq_true rfl) ⟨Nat.le_refl 0, Nat.le_refl 0⟩ dX6_holds_50 ?_
    refine sv_iconst hC (v := 0) dX6_holds_53 (by decide) ?_
    refine sv_istore_n hC dX6_holds_54 rfl (by decide) (lvq := [(2, .int 0), (0, .ref ho), (1, .int x1)]) rfl ?_
    refine sv_loc [1, 2, 0] (lvq := [(0, .ref ho), (1, .int x1), (2, .int 0)]) rfl ?_
    exact wk_md_holds_55 ho a hC hQ rk_6 hk_6 sv_FU x1 0 s7 h
set_option maxHeartbeats 2000000 in
theorem wk_md_holds_14b {Γ : sv_G} (ho : Nat) (a : Nat → Nat) (hC : sv_C Γ cX6_holds 4 RX6 (some .boolean) rm_X6_holds) {r0 : Int32 × MSt} (hQ : sv_RQ Γ (sv_pI r0.1 (MW (sg_dA Γ) ho a r0.2)) 0 0) (rk_6 : Int32 → MSt → Option (Int32 × MSt)) (hk_6 : ∀ (x1 : Int32) (σ : MSt), rk_6 x1 σ = some r0 → sv_V Γ (MW (sg_dA Γ) ho a σ) 0 0 6 [(0, .ref ho), (1, .int x1)] []) (rk_14 : Int32 → Int32 → MSt → Option (Int32 × MSt)) (hk_14 : ∀ (x1 : Int32) (x2 : Int32) (σ : MSt), rk_14 x1 x2 σ = some r0 → sv_V Γ (MW (sg_dA Γ) ho a σ) 0 0 14 [(0, .ref ho), (1, .int x1), (2, .int x2)] []) (x1 : Int32) (x2 : Int32) (σ : MSt)  (h : md_holds_14b rk_6 rk_14 x1 x2 σ = some r0) : sv_V Γ (MW (sg_dA Γ) ho a σ) 0 0 14 [(0, .ref ho), (1, .int x1), (2, .int x2)] [] := by
  unfold md_holds_14b at h
  refine sv_iload_n hC dX6_holds_14 2 rfl rfl ?_
  refine sv_iconst hC (v := 4) dX6_holds_15 (by decide) ?_
  refine sv_icmp_ge hC (tgt := 40) dX6_holds_16 (by decide) (fun c3 => ?_) (fun c3 => ?_)
  · have h := sv_it c3 h
    refine sv_loc [0, 1] (lvq := [(0, .ref ho), (1, .int x1)]) rfl ?_
    exact wk_md_holds_40 ho a hC hQ rk_6 hk_6 x1 σ h
  · have h := sv_if c3 h
    refine sv_iload_n hC dX6_holds_19 1 rfl rfl ?_
    refine sv_aload_n hC dX6_holds_20 0 rfl rfl ?_
    refine sv_get hC in_X6 0 rfl rfl 16 (by decide) q1072 rfl (v := .int (σ.1 16)) rfl dX6_holds_21 ?_
    refine sv_icmp_lt hC (tgt := 40) dX6_holds_24 (by decide) (fun c4 => ?_) (fun c4 => ?_)
    · have h := sv_it c4 h
      refine sv_loc [0, 1] (lvq := [(0, .ref ho), (1, .int x1)]) rfl ?_
      exact wk_md_holds_40 ho a hC hQ rk_6 hk_6 x1 σ h
    · have h := sv_if c4 h
      refine sv_aload_n hC dX6_holds_27 0 rfl rfl ?_
      refine sv_get hC in_X6 0 rfl rfl 36 (by decide) q1092 rfl (v := .ref (a 36)) rfl dX6_holds_28 ?_
      refine sv_iload_n hC dX6_holds_31 2 rfl rfl ?_
      refine sv_iconst hC (v := 0) dX6_holds_32 (by decide) ?_
      obtain ⟨j5, ej5, h⟩ := sv_ob h
      refine sv_iast hC 16 (f := σ.2 36) rfl rfl (j := j5) ej5 (Xq := MW (sg_dA Γ) ho a (ms_a σ 36 j5 0)) rfl dX6_holds_33 ?_
      refine sv_iinc hC (v := x2 + 1) dX6_holds_34 2 rfl rfl (by decide) (lvq := [(2, .int (x2 + 1)), (0, .ref ho), (1, .int x1)]) rfl ?_
      refine sv_goto hC (tgt := 14) dX6_holds_37 (by decide) ?_
      refine sv_loc [1, 2, 0] (lvq := [(0, .ref ho), (1, .int x1), (2, .int (x2 + 1))]) rfl ?_
      exact hk_14 x1 (x2 + 1) (ms_a σ 36 j5 0) h
set_option maxHeartbeats 2000000 in
theorem wk_md_holds_14 {Γ : sv_G} (ho : Nat) (a : Nat → Nat) (hC : sv_C Γ cX6_holds 4 RX6 (some .boolean) rm_X6_holds) {r0 : Int32 × MSt} (hQ : sv_RQ Γ (sv_pI r0.1 (MW (sg_dA Γ) ho a r0.2)) 0 0) (rk_6 : Int32 → MSt → Option (Int32 × MSt)) (hk_6 : ∀ (x1 : Int32) (σ : MSt), rk_6 x1 σ = some r0 → sv_V Γ (MW (sg_dA Γ) ho a σ) 0 0 6 [(0, .ref ho), (1, .int x1)] []) : ∀ (n : Nat) (x1 : Int32) (x2 : Int32) (σ : MSt)  (h : md_holds_14 rk_6 n x1 x2 σ = some r0), sv_V Γ (MW (sg_dA Γ) ho a σ) 0 0 14 [(0, .ref ho), (1, .int x1), (2, .int x2)] [] := by
  intro n
  induction n with
  | zero => intro x1 x2 σ h; cases h
  | succ n ih => intro x1 x2 σ h; exact wk_md_holds_14b ho a hC hQ rk_6 hk_6 (md_holds_14 rk_6 n) ih x1 x2 σ h
set_option maxHeartbeats 2000000 in
theorem wk_md_holds_6b {Γ : sv_G} (ho : Nat) (a : Nat → Nat) (hC : sv_C Γ cX6_holds 4 RX6 (some .boolean) rm_X6_holds) {r0 : Int32 × MSt} (hQ : sv_RQ Γ (sv_pI r0.1 (MW (sg_dA Γ) ho a r0.2)) 0 0)  (rk_6 : Int32 → MSt → Option (Int32 × MSt)) (hk_6 : ∀ (x1 : Int32) (σ : MSt), rk_6 x1 σ = some r0 → sv_V Γ (MW (sg_dA Γ) ho a σ) 0 0 6 [(0, .ref ho), (1, .int x1)] []) (x1 : Int32) (σ : MSt)  (h : md_holds_6b rk_6 x1 σ = some r0) : sv_V Γ (MW (sg_dA Γ) ho a σ) 0 0 6 [(0, .ref ho), (1, .int x1)] [] := by
  unfold md_holds_6b at h
  refine sv_iload_n hC dX6_holds_6 1 rfl rfl ?_
  refine sv_bipush hC (v := 21) dX6_holds_7 (by decide) ?_
  refine sv_icmp_ge hC (tgt := 130) dX6_holds_9 (by decide) (fun c2 => ?_) (fun c2 => ?_)
  · have h := sv_it c2 h
    refine sv_iconst hC (v := 1) dX6_holds_130 (by decide) ?_
    exact sv_zret hC hQ dX6_holds_131 rfl (by have e := Option.some.inj h; subst e; exact ⟨rfl, rfl⟩)
  · have h := sv_if c2 h
    refine sv_iconst hC (v := 0) dX6_holds_12 (by decide) ?_
    refine sv_istore_n hC dX6_holds_13 rfl (by decide) (lvq := [(2, .int 0), (0, .ref ho), (1, .int x1)]) rfl ?_
    refine sv_loc [1, 2, 0] (lvq := [(0, .ref ho), (1, .int x1), (2, .int 0)]) rfl ?_
    exact wk_md_holds_14 ho a hC hQ rk_6 hk_6 sv_FU x1 0 σ h
set_option maxHeartbeats 2000000 in
theorem wk_md_holds_6 {Γ : sv_G} (ho : Nat) (a : Nat → Nat) (hC : sv_C Γ cX6_holds 4 RX6 (some .boolean) rm_X6_holds) {r0 : Int32 × MSt} (hQ : sv_RQ Γ (sv_pI r0.1 (MW (sg_dA Γ) ho a r0.2)) 0 0)  : ∀ (n : Nat) (x1 : Int32) (σ : MSt)  (h : md_holds_6 n x1 σ = some r0), sv_V Γ (MW (sg_dA Γ) ho a σ) 0 0 6 [(0, .ref ho), (1, .int x1)] [] := by
  intro n
  induction n with
  | zero => intro x1 σ h; cases h
  | succ n ih => intro x1 σ h; exact wk_md_holds_6b ho a hC hQ (md_holds_6 n) ih x1 σ h
set_option maxHeartbeats 2000000 in
theorem wk_md_holds {Γ : sv_G} (ho : Nat) (a : Nat → Nat) (hC : sv_C Γ cX6_holds 4 RX6 (some .boolean) rm_X6_holds) {r0 : Int32 × MSt} (hQ : sv_RQ Γ (sv_pI r0.1 (MW (sg_dA Γ) ho a r0.2)) 0 0) (σ : MSt) (h : md_holds σ = some r0) : sv_V Γ (MW (sg_dA Γ) ho a σ) 0 0 0 [(0, .ref ho)] [] := by
  unfold md_holds at h
  refine sv_aload_n hC dX6_holds_0 0 rfl rfl ?_
  obtain ⟨s1, es1, h⟩ := sv_ob h
  refine sv_wVv (nn := 0) hC (met_md_begin hC.F ho a σ es1) 0 0 rfl rfl rfl (lw_V q1288 q1290 qs36 q62 q1291) (by decide +kernel) ⟨by decide, by decide⟩ ⟨rfl, rfl⟩ rfl rfl (Nat.le_of_ble_eq_true rfl) ⟨Nat.le_refl 0, Nat.le_refl 0⟩ dX6_holds_1 ?_
  refine sv_iconst hC (v := 0) dX6_holds_4 (by decide) ?_
  refine sv_istore_n hC dX6_holds_5 rfl (by decide) (lvq := [(1, .int 0), (0, .ref ho)]) rfl ?_
  refine sv_loc [1, 0] (lvq := [(0, .ref ho), (1, .int 0)]) rfl ?_
  exact wk_md_holds_6 ho a hC hQ sv_FU 0 s1 h
set_option maxHeartbeats 2000000 in
theorem met_md_holds {l : Launch} {s0 : State} {D : va_G} {dA : Nat → ClassId} (hF : sv_F s0 D dA) (ho : Nat) (a : Nat → Nat) (σ : MSt) {r0 : Int32 × MSt} (h : md_holds σ = some r0) : sv_M l s0 D yX6_holds cX6_holds 4 (some .boolean) rm_X6_holds [.ref ho] (MW dA ho a σ) (sv_pI r0.1 (MW dA ho a r0.2)) :=
  sv_met hF (by decide) (Nat.le_of_ble_eq_true rfl) (fun Γ hC hQ hmn e1 e2 e3 e4 => by
    subst e1 e2 e3 e4
    exact wk_md_holds ho a hC hQ σ h)
set_option maxHeartbeats 2000000 in
theorem wk_md_learnt_26b {Γ : sv_G} (ho : Nat) (a : Nat → Nat) (hC : sv_C Γ cX6_learnt 5 RX6 (some .int) rm_X6_learnt) {r0 : Int32 × MSt} (hQ : sv_RQ Γ (sv_pI r0.1 (MW (sg_dA Γ) ho a r0.2)) 0 0)  (rk_26 : Int32 → Int32 → Int32 → Int32 → MSt → Option (Int32 × MSt)) (hk_26 : ∀ (x1 : Int32) (x2 : Int32) (x3 : Int32) (x4 : Int32) (σ : MSt), rk_26 x1 x2 x3 x4 σ = some r0 → sv_V Γ (MW (sg_dA Γ) ho a σ) 0 0 26 [(0, .ref ho), (1, .int x1), (2, .int x2), (3, .int x3), (4, .int x4)] []) (x1 : Int32) (x2 : Int32) (x3 : Int32) (x4 : Int32) (σ : MSt)  (h : md_learnt_26b rk_26 x1 x2 x3 x4 σ = some r0) : sv_V Γ (MW (sg_dA Γ) ho a σ) 0 0 26 [(0, .ref ho), (1, .int x1), (2, .int x2), (3, .int x3), (4, .int x4)] [] := by
  unfold md_learnt_26b at h
  refine sv_iload hC dX6_learnt_26 4 rfl ?_
  refine sv_sipush hC (v := 1100) dX6_learnt_28 (by decide) ?_
  refine sv_icmp_ge hC (tgt := 82) dX6_learnt_31 (by decide) (fun c4 => ?_) (fun c4 => ?_)
  · have h := sv_it c4 h
    refine sv_iload_n hC dX6_learnt_82 1 rfl rfl ?_
    refine sv_if_ne hC (tgt := 90) dX6_learnt_83 (by decide) (fun c5 => ?_) (fun c5 => ?_)
    · have h := sv_if c5 h
      refine sv_iload_n hC dX6_learnt_90 3 rfl rfl ?_
      refine sv_iconst hC (v := (-1)) dX6_learnt_91 (by decide) ?_
      refine sv_icmp_ne hC (tgt := 99) dX6_learnt_92 (by decide) (fun c6 => ?_) (fun c6 => ?_)
      · have h := sv_if c6 h
        refine sv_iload_n hC dX6_learnt_99 1 rfl rfl ?_
        refine sv_iconst hC (v := 1) dX6_learnt_100 (by decide) ?_
        refine sv_icmp_ne hC (tgt := 111) dX6_learnt_101 (by decide) (fun c7 => ?_) (fun c7 => ?_)
        · have h := sv_if c7 h
          refine sv_iload_n hC dX6_learnt_111 3 rfl rfl ?_
          refine sv_bipush hC (v := 11) dX6_learnt_112 (by decide) ?_
          refine sv_irem hC dX6_learnt_114 (by decide) ?_
          refine sv_bipush hC (v := 10) dX6_learnt_115 (by decide) ?_
          refine sv_imul hC dX6_learnt_117 ?_
          exact sv_iret hC hQ dX6_learnt_118 (by have e := Option.some.inj h; subst e; exact ⟨rfl, rfl⟩)
        · have h := sv_it c7 h
          refine sv_iload_n hC dX6_learnt_104 3 rfl rfl ?_
          refine sv_bipush hC (v := 11) dX6_learnt_105 (by decide) ?_
          refine sv_idiv hC dX6_learnt_107 (by decide) ?_
          refine sv_goto hC (tgt := 118) dX6_learnt_108 (by decide) ?_
          exact sv_iret hC hQ dX6_learnt_118 (by have e := Option.some.inj h; subst e; exact ⟨rfl, rfl⟩)
      · have h := sv_it c6 h
        refine sv_iconst hC (v := (-1)) dX6_learnt_95 (by decide) ?_
        refine sv_goto hC (tgt := 118) dX6_learnt_96 (by decide) ?_
        exact sv_iret hC hQ dX6_learnt_118 (by have e := Option.some.inj h; subst e; exact ⟨rfl, rfl⟩)
    · have h := sv_it c5 h
      refine sv_iload_n hC dX6_learnt_86 2 rfl rfl ?_
      refine sv_goto hC (tgt := 118) dX6_learnt_87 (by decide) ?_
      exact sv_iret hC hQ dX6_learnt_118 (by have e := Option.some.inj h; subst e; exact ⟨rfl, rfl⟩)
  · have h := sv_if c4 h
    refine sv_aload_n hC dX6_learnt_34 0 rfl rfl ?_
    refine sv_iload hC dX6_learnt_35 4 rfl ?_
    refine sv_bipush hC (v := 11) dX6_learnt_37 (by decide) ?_
    refine sv_idiv hC dX6_learnt_39 (by decide) ?_
    refine sv_put hC in_X6 tyX6 tyX6_ok nmX6 0 rfl rfl 29 (by decide) q1085 rfl rfl rfl rfl (Nat.le_of_ble_eq_true rfl) (Xq := MW (sg_dA Γ) ho a (ms_s σ 29 (x4 / 11))) rfl dX6_learnt_40 ?_
    refine sv_aload_n hC dX6_learnt_43 0 rfl rfl ?_
    refine sv_iload hC dX6_learnt_44 4 rfl ?_
    refine sv_bipush hC (v := 11) dX6_learnt_46 (by decide) ?_
    refine sv_irem hC dX6_learnt_48 (by decide) ?_
    refine sv_bipush hC (v := 10) dX6_learnt_49 (by decide) ?_
    refine sv_imul hC dX6_learnt_51 ?_
    refine sv_put hC in_X6 tyX6 tyX6_ok nmX6 0 rfl rfl 30 (by decide) q1086 rfl rfl rfl rfl (Nat.le_of_ble_eq_true rfl) (Xq := MW (sg_dA Γ) ho a (ms_s (ms_s σ 29 (x4 / 11)) 30 ((x4 - x4 / 11 * 11) * 10))) rfl dX6_learnt_52 ?_
    refine sv_aload_n hC dX6_learnt_55 0 rfl rfl ?_
    obtain ⟨p8, ep8, h⟩ := sv_ob h
    refine sv_wVi (nn := 0) hC (met_md_holds hC.F ho a (ms_s (ms_s σ 29 (x4 / 11)) 30 ((x4 - x4 / 11 * 11) * 10)) ep8) 0 0 rfl rfl rfl (lw_V q1415 q1417 qs50 q62 q1418) (by decide +kernel) ⟨by decide, by decide⟩ ⟨rfl, rfl⟩ rfl rfl (Nat.le_of_ble_eq_true rfl) ⟨Nat.le_refl 0, Nat.le_refl 0⟩ dX6_learnt_56 ?_
    refine sv_if_eq hC (tgt := 76) dX6_learnt_59 (by decide) (fun c9 => ?_) (fun c9 => ?_)
    · have h := sv_it c9 h
      refine sv_iinc hC (v := x4 + 1) dX6_learnt_76 4 rfl rfl (by decide) (lvq := [(4, .int (x4 + 1)), (0, .ref ho), (1, .int x1), (2, .int x2), (3, .int x3)]) rfl ?_
      refine sv_goto hC (tgt := 26) dX6_learnt_79 (by decide) ?_
      refine sv_loc [1, 2, 3, 4, 0] (lvq := [(0, .ref ho), (1, .int x1), (2, .int x2), (3, .int x3), (4, .int (x4 + 1))]) rfl ?_
      exact hk_26 x1 x2 x3 (x4 + 1) p8.2 h
    · have h := sv_if c9 h
      refine sv_iload_n hC dX6_learnt_62 2 rfl rfl ?_
      refine sv_if_ne hC (tgt := 71) dX6_learnt_63 (by decide) (fun c10 => ?_) (fun c10 => ?_)
      · have h := sv_if c10 h
        refine sv_iload_n hC dX6_learnt_71 3 rfl rfl ?_
        refine sv_istore_n hC dX6_learnt_72 rfl (by decide) (lvq := [(3, .int x3), (0, .ref ho), (1, .int x1), (2, .int x2), (4, .int x4)]) rfl ?_
        refine sv_iinc hC (v := x2 + 1) dX6_learnt_73 3 rfl rfl (by decide) (lvq := [(2, .int (x2 + 1)), (3, .int x3), (0, .ref ho), (1, .int x1), (4, .int x4)]) rfl ?_
        refine sv_iinc hC (v := x4 + 1) dX6_learnt_76 4 rfl rfl (by decide) (lvq := [(4, .int (x4 + 1)), (2, .int (x2 + 1)), (3, .int x3), (0, .ref ho), (1, .int x1)]) rfl ?_
        refine sv_goto hC (tgt := 26) dX6_learnt_79 (by decide) ?_
        refine sv_loc [3, 4, 1, 2, 0] (lvq := [(0, .ref ho), (1, .int x1), (2, .int (x2 + 1)), (3, .int x3), (4, .int (x4 + 1))]) rfl ?_
        exact hk_26 x1 (x2 + 1) x3 (x4 + 1) p8.2 h
      · have h := sv_it c10 h
        refine sv_iload hC dX6_learnt_66 4 rfl ?_
        refine sv_goto hC (tgt := 72) dX6_learnt_68 (by decide) ?_
        refine sv_istore_n hC dX6_learnt_72 rfl (by decide) (lvq := [(3, .int x4), (0, .ref ho), (1, .int x1), (2, .int x2), (4, .int x4)]) rfl ?_
        refine sv_iinc hC (v := x2 + 1) dX6_learnt_73 3 rfl rfl (by decide) (lvq := [(2, .int (x2 + 1)), (3, .int x4), (0, .ref ho), (1, .int x1), (4, .int x4)]) rfl ?_
        refine sv_iinc hC (v := x4 + 1) dX6_learnt_76 4 rfl rfl (by decide) (lvq := [(4, .int (x4 + 1)), (2, .int (x2 + 1)), (3, .int x4), (0, .ref ho), (1, .int x1)]) rfl ?_
        refine sv_goto hC (tgt := 26) dX6_learnt_79 (by decide) ?_
        refine sv_loc [3, 4, 1, 2, 0] (lvq := [(0, .ref ho), (1, .int x1), (2, .int (x2 + 1)), (3, .int x4), (4, .int (x4 + 1))]) rfl ?_
        exact hk_26 x1 (x2 + 1) x4 (x4 + 1) p8.2 h
set_option maxHeartbeats 2000000 in
theorem wk_md_learnt_26 {Γ : sv_G} (ho : Nat) (a : Nat → Nat) (hC : sv_C Γ cX6_learnt 5 RX6 (some .int) rm_X6_learnt) {r0 : Int32 × MSt} (hQ : sv_RQ Γ (sv_pI r0.1 (MW (sg_dA Γ) ho a r0.2)) 0 0)  : ∀ (n : Nat) (x1 : Int32) (x2 : Int32) (x3 : Int32) (x4 : Int32) (σ : MSt)  (h : md_learnt_26 n x1 x2 x3 x4 σ = some r0), sv_V Γ (MW (sg_dA Γ) ho a σ) 0 0 26 [(0, .ref ho), (1, .int x1), (2, .int x2), (3, .int x3), (4, .int x4)] [] := by
  intro n
  induction n with
  | zero => intro x1 x2 x3 x4 σ h; cases h
  | succ n ih => intro x1 x2 x3 x4 σ h; exact wk_md_learnt_26b ho a hC hQ (md_learnt_26 n) ih x1 x2 x3 x4 σ h
set_option maxHeartbeats 2000000 in
theorem wk_md_learnt {Γ : sv_G} (ho : Nat) (a : Nat → Nat) (hC : sv_C Γ cX6_learnt 5 RX6 (some .int) rm_X6_learnt) {r0 : Int32 × MSt} (hQ : sv_RQ Γ (sv_pI r0.1 (MW (sg_dA Γ) ho a r0.2)) 0 0) (x1 : Int32) (σ : MSt) (h : md_learnt x1 σ = some r0) : sv_V Γ (MW (sg_dA Γ) ho a σ) 0 0 0 [(0, .ref ho), (1, .int x1)] [] := by
  unfold md_learnt at h
  refine sv_iload_n hC dX6_learnt_0 1 rfl rfl ?_
  refine sv_i2l hC dX6_learnt_1 ?_
  refine sv_lconst hC (v := 0) dX6_learnt_2 (by decide) ?_
  refine sv_ldc2 hC dX6_learnt_3 q1344 ?_
  obtain ⟨r1, er1, h⟩ := sv_ob h
  refine sv_pSi (nn := 3) hC (met_md_in hC.F x1.toInt64 0 2 er1) (lw_S q1182 q1183 q62 q1184) (by decide +kernel) ⟨by decide, by decide⟩ ⟨rfl, rfl⟩ rfl rfl (Nat.le_of_ble_eq_true rfl) ⟨Nat.le_refl 0, Nat.le_refl 0⟩ dX6_learnt_6 ?_
  refine sv_if_ne hC (tgt := 15) dX6_learnt_9 (by decide) (fun c2 => ?_) (fun c2 => ?_)
  · have h := sv_if c2 h
    refine sv_aload_n hC dX6_learnt_15 0 rfl rfl ?_
    obtain ⟨s3, es3, h⟩ := sv_ob h
    refine sv_wVv (nn := 0) hC (met_md_asPlanned hC.F ho a σ es3) 0 0 rfl rfl rfl (lw_V q1280 q1282 qs34 q62 q1283) (by decide +kernel) ⟨by decide, by decide⟩ ⟨rfl, rfl⟩ rfl rfl (Nat.le_of_ble_eq_true rfl) ⟨Nat.le_refl 0, Nat.le_refl 0⟩ dX6_learnt_16 ?_
    refine sv_iconst hC (v := 0) dX6_learnt_19 (by decide) ?_
    refine sv_istore_n hC dX6_learnt_20 rfl (by decide) (lvq := [(2, .int 0), (0, .ref ho), (1, .int x1)]) rfl ?_
    refine sv_iconst hC (v := (-1)) dX6_learnt_21 (by decide) ?_
    refine sv_istore_n hC dX6_learnt_22 rfl (by decide) (lvq := [(3, .int (-1)), (2, .int 0), (0, .ref ho), (1, .int x1)]) rfl ?_
    refine sv_iconst hC (v := 0) dX6_learnt_23 (by decide) ?_
    refine sv_istore hC dX6_learnt_24 (by decide) (lvq := [(4, .int 0), (3, .int (-1)), (2, .int 0), (0, .ref ho), (1, .int x1)]) rfl ?_
    refine sv_loc [3, 4, 2, 1, 0] (lvq := [(0, .ref ho), (1, .int x1), (2, .int 0), (3, .int (-1)), (4, .int 0)]) rfl ?_
    exact wk_md_learnt_26 ho a hC hQ sv_FU x1 0 (-1) 0 s3 h
  · have h := sv_it c2 h
    refine sv_bipush hC (v := (-3)) dX6_learnt_12 (by decide) ?_
    exact sv_iret hC hQ dX6_learnt_14 (by have e := Option.some.inj h; subst e; exact ⟨rfl, rfl⟩)
set_option maxHeartbeats 2000000 in
theorem met_md_learnt {l : Launch} {s0 : State} {D : va_G} {dA : Nat → ClassId} (hF : sv_F s0 D dA) (ho : Nat) (a : Nat → Nat) (x1 : Int32) (σ : MSt) {r0 : Int32 × MSt} (h : md_learnt x1 σ = some r0) : sv_M l s0 D yX6_learnt cX6_learnt 5 (some .int) rm_X6_learnt [.ref ho, .int x1] (MW dA ho a σ) (sv_pI r0.1 (MW dA ho a r0.2)) :=
  sv_met hF (by decide) (Nat.le_of_ble_eq_true rfl) (fun Γ hC hQ hmn e1 e2 e3 e4 => by
    subst e1 e2 e3 e4
    exact wk_md_learnt ho a hC hQ x1 σ h)
set_option maxHeartbeats 2000000 in
theorem wk_md_many {Γ : sv_G}  (hC : sv_C Γ cX6_many 1 RX6 (some .int) rm_X6_many) {r0 : Int32} (hQ : sv_RQ Γ (sv_pI r0 []) 0 0) (x0 : Int32) (h : md_many x0 = some r0) : sv_V Γ ([]) 0 0 0 [(0, .int x0)] [] := by
  unfold md_many at h
  refine sv_iload_n hC dX6_many_0 0 rfl rfl ?_
  refine sv_iconst hC (v := 1) dX6_many_1 (by decide) ?_
  refine sv_iand hC dX6_many_2 ?_
  refine sv_iload_n hC dX6_many_3 0 rfl rfl ?_
  refine sv_iconst hC (v := 1) dX6_many_4 (by decide) ?_
  refine sv_ishr hC dX6_many_5 ?_
  refine sv_iconst hC (v := 1) dX6_many_6 (by decide) ?_
  refine sv_iand hC dX6_many_7 ?_
  refine sv_iadd hC dX6_many_8 ?_
  refine sv_iload_n hC dX6_many_9 0 rfl rfl ?_
  refine sv_iconst hC (v := 2) dX6_many_10 (by decide) ?_
  refine sv_ishr hC dX6_many_11 ?_
  refine sv_iconst hC (v := 1) dX6_many_12 (by decide) ?_
  refine sv_iand hC dX6_many_13 ?_
  refine sv_iadd hC dX6_many_14 ?_
  refine sv_iload_n hC dX6_many_15 0 rfl rfl ?_
  refine sv_iconst hC (v := 3) dX6_many_16 (by decide) ?_
  refine sv_ishr hC dX6_many_17 ?_
  refine sv_iconst hC (v := 1) dX6_many_18 (by decide) ?_
  refine sv_iand hC dX6_many_19 ?_
  refine sv_iadd hC dX6_many_20 ?_
  exact sv_iret hC hQ dX6_many_21 (by have e := Option.some.inj h; subst e; exact ⟨rfl, rfl⟩)
set_option maxHeartbeats 2000000 in
theorem met_md_many {l : Launch} {s0 : State} {D : va_G} {dA : Nat → ClassId} (hF : sv_F s0 D dA)  (x0 : Int32) {r0 : Int32} (h : md_many x0 = some r0) : sv_M l s0 D yX6_many cX6_many 1 (some .int) rm_X6_many [.int x0] ([]) (sv_pI r0 []) :=
  sv_met hF (by decide) (Nat.le_of_ble_eq_true rfl) (fun Γ hC hQ hmn e1 e2 e3 e4 => by
    subst e1 e2 e3 e4
    exact wk_md_many hC hQ x0 h)
set_option maxHeartbeats 2000000 in
theorem wk_md_count {Γ : sv_G} (ho : Nat) (a : Nat → Nat) (σ : MSt) (hC : sv_C Γ cX6_count 2 RX6 (some .int) rm_X6_count) {r0 : Int32} (hQ : sv_RQ Γ (sv_pI r0 (MW (sg_dA Γ) ho a σ)) 0 0) (x1 : Int32) (h : md_count σ x1 = some r0) : sv_V Γ (MW (sg_dA Γ) ho a σ) 0 0 0 [(0, .ref ho), (1, .int x1)] [] := by
  unfold md_count at h
  refine sv_iload_n hC dX6_count_0 1 rfl rfl ?_
  by_cases c1 : x1 = 0
  · have h := sv_it c1 h
    refine sv_tabIn hC (tgt := 52) dX6_count_1 0 c1 (by decide) (by decide) rfl (by decide) ?_
    refine sv_aload_n hC dX6_count_52 0 rfl rfl ?_
    refine sv_get hC in_X6 0 rfl rfl 4 (by decide) q1060 rfl (v := .int (σ.1 4)) rfl dX6_count_53 ?_
    obtain ⟨r2, er2, h⟩ := sv_ob h
    refine sv_pSi (nn := 1) hC (met_md_many hC.F (σ.1 4) er2) (lw_S q1423 q1424 q62 q1425) (by decide +kernel) ⟨by decide, by decide⟩ ⟨rfl, rfl⟩ rfl rfl (Nat.le_of_ble_eq_true rfl) ⟨Nat.le_refl 0, Nat.le_refl 0⟩ dX6_count_56 ?_
    exact sv_iret hC hQ dX6_count_59 (by have e := Option.some.inj h; subst e; exact ⟨rfl, rfl⟩)
  · have h := sv_if c1 h
    by_cases c3 : x1 = 1
    · have h := sv_it c3 h
      refine sv_tabIn hC (tgt := 60) dX6_count_1 1 c3 (by decide) (by decide) rfl (by decide) ?_
      refine sv_aload_n hC dX6_count_60 0 rfl rfl ?_
      refine sv_get hC in_X6 0 rfl rfl 8 (by decide) q1064 rfl (v := .int (σ.1 8)) rfl dX6_count_61 ?_
      obtain ⟨r4, er4, h⟩ := sv_ob h
      refine sv_pSi (nn := 1) hC (met_md_many hC.F (σ.1 8) er4) (lw_S q1423 q1424 q62 q1425) (by decide +kernel) ⟨by decide, by decide⟩ ⟨rfl, rfl⟩ rfl rfl (Nat.le_of_ble_eq_true rfl) ⟨Nat.le_refl 0, Nat.le_refl 0⟩ dX6_count_64 ?_
      exact sv_iret hC hQ dX6_count_67 (by have e := Option.some.inj h; subst e; exact ⟨rfl, rfl⟩)
    · have h := sv_if c3 h
      by_cases c5 : x1 = 2
      · have h := sv_it c5 h
        refine sv_tabIn hC (tgt := 68) dX6_count_1 2 c5 (by decide) (by decide) rfl (by decide) ?_
        refine sv_aload_n hC dX6_count_68 0 rfl rfl ?_
        refine sv_get hC in_X6 0 rfl rfl 10 (by decide) q1066 rfl (v := .int (σ.1 10)) rfl dX6_count_69 ?_
        obtain ⟨r6, er6, h⟩ := sv_ob h
        refine sv_pSi (nn := 1) hC (met_md_many hC.F (σ.1 10) er6) (lw_S q1423 q1424 q62 q1425) (by decide +kernel) ⟨by decide, by decide⟩ ⟨rfl, rfl⟩ rfl rfl (Nat.le_of_ble_eq_true rfl) ⟨Nat.le_refl 0, Nat.le_refl 0⟩ dX6_count_72 ?_
        exact sv_iret hC hQ dX6_count_75 (by have e := Option.some.inj h; subst e; exact ⟨rfl, rfl⟩)
      · have h := sv_if c5 h
        by_cases c7 : x1 = 3
        · have h := sv_it c7 h
          refine sv_tabIn hC (tgt := 76) dX6_count_1 3 c7 (by decide) (by decide) rfl (by decide) ?_
          refine sv_aload_n hC dX6_count_76 0 rfl rfl ?_
          refine sv_get hC in_X6 0 rfl rfl 1 (by decide) q1057 rfl (v := .int (σ.1 1)) rfl dX6_count_77 ?_
          exact sv_iret hC hQ dX6_count_80 (by have e := Option.some.inj h; subst e; exact ⟨rfl, rfl⟩)
        · have h := sv_if c7 h
          by_cases c8 : x1 = 4
          · have h := sv_it c8 h
            refine sv_tabIn hC (tgt := 81) dX6_count_1 4 c8 (by decide) (by decide) rfl (by decide) ?_
            refine sv_aload_n hC dX6_count_81 0 rfl rfl ?_
            refine sv_get hC in_X6 0 rfl rfl 13 (by decide) q1069 rfl (v := .int (σ.1 13)) rfl dX6_count_82 ?_
            exact sv_iret hC hQ dX6_count_85 (by have e := Option.some.inj h; subst e; exact ⟨rfl, rfl⟩)
          · have h := sv_if c8 h
            by_cases c9 : x1 = 5
            · have h := sv_it c9 h
              refine sv_tabIn hC (tgt := 86) dX6_count_1 5 c9 (by decide) (by decide) rfl (by decide) ?_
              refine sv_aload_n hC dX6_count_86 0 rfl rfl ?_
              refine sv_get hC in_X6 0 rfl rfl 14 (by decide) q1070 rfl (v := .int (σ.1 14)) rfl dX6_count_87 ?_
              exact sv_iret hC hQ dX6_count_90 (by have e := Option.some.inj h; subst e; exact ⟨rfl, rfl⟩)
            · have h := sv_if c9 h
              by_cases c10 : x1 = 6
              · have h := sv_it c10 h
                refine sv_tabIn hC (tgt := 91) dX6_count_1 6 c10 (by decide) (by decide) rfl (by decide) ?_
                refine sv_aload_n hC dX6_count_91 0 rfl rfl ?_
                refine sv_get hC in_X6 0 rfl rfl 15 (by decide) q1071 rfl (v := .int (σ.1 15)) rfl dX6_count_92 ?_
                exact sv_iret hC hQ dX6_count_95 (by have e := Option.some.inj h; subst e; exact ⟨rfl, rfl⟩)
              · have h := sv_if c10 h
                by_cases c11 : x1 = 7
                · have h := sv_it c11 h
                  refine sv_tabIn hC (tgt := 96) dX6_count_1 7 c11 (by decide) (by decide) rfl (by decide) ?_
                  refine sv_aload_n hC dX6_count_96 0 rfl rfl ?_
                  refine sv_get hC in_X6 0 rfl rfl 16 (by decide) q1072 rfl (v := .int (σ.1 16)) rfl dX6_count_97 ?_
                  exact sv_iret hC hQ dX6_count_100 (by have e := Option.some.inj h; subst e; exact ⟨rfl, rfl⟩)
                · have h := sv_if c11 h
                  by_cases c12 : x1 = 8
                  · have h := sv_it c12 h
                    refine sv_tabIn hC (tgt := 101) dX6_count_1 8 c12 (by decide) (by decide) rfl (by decide) ?_
                    refine sv_aload_n hC dX6_count_101 0 rfl rfl ?_
                    refine sv_get hC in_X6 0 rfl rfl 20 (by decide) q1076 rfl (v := .int (σ.1 20)) rfl dX6_count_102 ?_
                    exact sv_iret hC hQ dX6_count_105 (by have e := Option.some.inj h; subst e; exact ⟨rfl, rfl⟩)
                  · have h := sv_if c12 h
                    have hso : x1.toInt < 0 ∨ ((8 : Nat) : Int) < x1.toInt := sv_swOut (N := 8) (by decide) (fun j hj => by
                      rcases (show j = 0 ∨ j = 1 ∨ j = 2 ∨ j = 3 ∨ j = 4 ∨ j = 5 ∨ j = 6 ∨ j = 7 ∨ j = 8 by omega) with rfl | rfl | rfl | rfl | rfl | rfl | rfl | rfl | rfl
                      · exact c1
                      · exact c3
                      · exact c5
                      · exact c7
                      · exact c8
                      · exact c9
                      · exact c10
                      · exact c11
                      · exact c12)
                    refine sv_tabOut hC (tgt := 106) dX6_count_1 hso (by decide) ?_
                    refine sv_bipush hC (v := (-3)) dX6_count_106 (by decide) ?_
                    exact sv_iret hC hQ dX6_count_108 (by have e := Option.some.inj h; subst e; exact ⟨rfl, rfl⟩)
set_option maxHeartbeats 2000000 in
theorem met_md_count {l : Launch} {s0 : State} {D : va_G} {dA : Nat → ClassId} (hF : sv_F s0 D dA) (ho : Nat) (a : Nat → Nat) (σ : MSt) (x1 : Int32) {r0 : Int32} (h : md_count σ x1 = some r0) : sv_M l s0 D yX6_count cX6_count 2 (some .int) rm_X6_count [.ref ho, .int x1] (MW dA ho a σ) (sv_pI r0 (MW dA ho a σ)) :=
  sv_met hF (by decide) (Nat.le_of_ble_eq_true rfl) (fun Γ hC hQ hmn e1 e2 e3 e4 => by
    subst e1 e2 e3 e4
    exact wk_md_count ho a σ hC hQ x1 h)
