/-! THE SYSTEM's WORLD: fixed cells at the places 0 .. 19, its 109 arrays of numbers at 20 .., a pool of objects that are never written -/
set_option maxRecDepth 100000
/-- what is told: fields, flocks, coats, counted rows -/
abbrev XK : Type := (Nat → Option (Int32 × Int32 × Int32)) × (Nat → Option Int32) × (Nat → Option (Int32 × Int32)) × List (Int32 × Int32 × Int32)
/-- addresses: of the places, of the cache's boxes, of fields, coats, rows, the list's array; modCount; the pool -/
abbrev XZ : Type := (Nat → Nat) × (Nat → Nat) × (Nat → Nat) × (Nat → Nat) × (Nat → Nat) × Nat × Int32 × List Nat × (Nat → va_E)
def xk (k : Nat) : Nat := if k < 21 then 0 else if k < 42 then 1 else if k < 63 then 2 else if k < 84 then 1 else if k < 105 then 2 else 1
def xl (k : Nat) : Nat := if k = 105 then 200 else 4
def xb (v : Int32) : Nat := (v + 128).toNatClampNeg
abbrev xq (f : Nat → Option Nat) : (Nat → Int32) ⊕ (Nat → Int64) ⊕ (Nat → UInt32) ⊕ (Nat → UInt64) ⊕ (Nat → Option Nat) := .inr (.inr (.inr (.inr f)))
def xe (dA : Nat → ClassId) (z : XZ) (K : XK) (σ : MSt) : Nat → va_E
  | 0 => .inr (1, [.ref (z.1 1), .ref (z.1 2), .ref (z.1 3), .ref (z.1 4), .int (σ.1 4), .int (σ.1 5), .int (σ.1 6), .int (σ.1 7), .ref (z.1 5), .ref (z.1 6), .ref (z.1 11), .ref (z.1 12), .ref (z.1 13), .ref (z.1 125), .int (σ.1 14), .ref (z.1 17), .ref (z.1 18), .ref (z.1 128), .ref (z.1 19)])
  | 1 => .inl (dA 3, 4, xq (fun j => (K.1 j).map (fun _ => z.2.2.1 j)))
  | 2 => .inl (dA 4, 4, xq (fun j => (K.2.1 j).map (fun v => z.2.1 (xb v))))
  | 3 => .inl (dA 5, 4, xq (fun j => (K.2.2.1 j).map (fun _ => z.2.2.2.1 j)))
  | 4 => .inr (3, [.int 999, .int 0])
  | 5 => .inr (4, [.ref (z.1 7), .ref (z.1 8)])
  | 6 => .inr (4, [.ref (z.1 9), .ref (z.1 10)])
  | 7 => .inl (dA 6, 21, xq (fun d => some (z.1 (d + 21 + 20))))
  | 8 => .inl (dA 7, 21, xq (fun d => some (z.1 (d + 42 + 20))))
  | 9 => .inl (dA 6, 21, xq (fun d => some (z.1 (d + 63 + 20))))
  | 10 => .inl (dA 7, 21, xq (fun d => some (z.1 (d + 84 + 20))))
  | 11 => .inr (5, [.ref (z.1 20), .ref (z.1 14), .ref (z.1 25), .ref (z.1 26), .int (σ.1 20), .int (σ.1 21), .ref (z.1 0)])
  | 12 => .inr (5, [.ref (z.1 27), .ref (z.1 15), .ref (z.1 32), .ref (z.1 33), .int (σ.1 22), .int (σ.1 23), .ref (z.1 0)])
  | 13 => .inr (5, [.ref (z.1 34), .ref (z.1 16), .ref (z.1 39), .ref (z.1 40), .int (σ.1 24), .int (σ.1 25), .ref (z.1 0)])
  | 14 => .inl (dA 8, 4, xq (fun b => some (z.1 (b + 1 + 20))))
  | 15 => .inl (dA 8, 4, xq (fun b => some (z.1 (b + 8 + 20))))
  | 16 => .inl (dA 8, 4, xq (fun b => some (z.1 (b + 15 + 20))))
  | 17 => .inr (6, [.ref (z.1 126), .ref (z.1 0)])
  | 18 => .inr (6, [.ref (z.1 127), .ref (z.1 0)])
  | 19 => .inr (7, [.int z.2.2.2.2.2.2.1, .ref z.2.2.2.2.2.1, .int (Int32.ofNat K.2.2.2.length)])
  | k + 20 => .inl (dA (xk k), xl k, .inl (σ.2 k))
def SW (dA : Nat → ClassId) (z : XZ) (K : XK) (σ : MSt) : va_W := (List.range 129).map (fun k => (z.1 k, xe dA z K σ k)) ++ va_pl z.2.2.2.2.2.2.2.1 z.2.2.2.2.2.2.2.2
/-- the pool holds what is told; the cache's boxes stand -/
def SP (s0 : State) (dA : Nat → ClassId) (z : XZ) (K : XK) : Prop :=
  (∀ (j : Nat) (v : Int32 × Int32 × Int32), K.1 j = some v → z.2.2.1 j ∈ z.2.2.2.2.2.2.2.1 ∧ z.2.2.2.2.2.2.2.2 (z.2.2.1 j) = .inr (13, [.int v.1, .int v.2.1, .int v.2.2])) ∧
  (∀ (j : Nat) (v : Int32), K.2.1 j = some v → xb v < 256 ∧ vb_c (xb v) = v) ∧
  (∀ (j : Nat) (v : Int32 × Int32), K.2.2.1 j = some v → z.2.2.2.1 j ∈ z.2.2.2.2.2.2.2.1 ∧ z.2.2.2.2.2.2.2.2 (z.2.2.2.1 j) = .inr (2, [.int v.1, .int v.2])) ∧
  K.2.2.2.length ≤ 12 ∧
  (∀ (j : Nat) (v : Int32 × Int32 × Int32), K.2.2.2[j]? = some v → z.2.2.2.2.1 j ∈ z.2.2.2.2.2.2.2.1 ∧ z.2.2.2.2.2.2.2.2 (z.2.2.2.2.1 j) = .inr (14, [.int v.1, .int v.2.1, .int v.2.2])) ∧
  (K.2.2.2 ≠ [] → z.2.2.2.2.2.1 ∈ z.2.2.2.2.2.2.2.1 ∧ ∃ (en : Nat) (g : Nat → Option Nat), z.2.2.2.2.2.2.2.2 z.2.2.2.2.2.1 = .inl (dA 9, en, xq g) ∧ K.2.2.2.length ≤ en ∧ ∀ j : Nat, j < K.2.2.2.length → g j = some (z.2.2.2.2.1 j)) ∧
  vb_C z.2.1 (fun q => s0.heap.size ≤ q) s0 s0.heap
section SX
variable {dA : Nat → ClassId} {z : XZ} {K : XK} {σ σ' : MSt} {s0 : State}
theorem sx_at {k : Nat} (hk : k < 129) : (SW dA z K σ)[k]? = some (z.1 k, xe dA z K σ k) := by
  unfold SW
  rw [List.getElem?_append_left (by simpa using hk), List.getElem?_map, List.getElem?_range hk]
  rfl
theorem sx_set {k : Nat} {e : va_E} (hk : k < 129) (h : ∀ j : Nat, j ≠ k → xe dA z K σ j = xe dA z K σ' j) (he : xe dA z K σ' k = e) : (SW dA z K σ).set k (z.1 k, e) = SW dA z K σ' := by
  have e1 : ((List.range 129).map (fun k => (z.1 k, xe dA z K σ k))).set k (z.1 k, e) = (List.range 129).map (fun k => (z.1 k, xe dA z K σ' k)) := by
    apply List.ext_getElem?
    intro i
    by_cases hi : i = k
    · subst hi
      rw [List.getElem?_set_self (by simpa using hk), List.getElem?_map, List.getElem?_range hk, ← he]
      rfl
    · rw [List.getElem?_set_ne (Ne.symm hi), List.getElem?_map, List.getElem?_map]
      by_cases h2 : i < 129
      · rw [List.getElem?_range h2]
        show some (z.1 i, xe dA z K σ i) = some (z.1 i, xe dA z K σ' i)
        rw [h i hi]
      · rw [List.getElem?_eq_none (by simpa using h2)]
        rfl
  unfold SW
  rw [List.set_append_left _ _ (by simpa using hk), e1]
theorem xe_s0 {q : Nat} {v : Int32} (hq : q < 20) : ∀ j : Nat, j ≠ 0 → xe dA z K σ j = xe dA z K (ms_s σ q v) j := by
  intro j hj
  have h20 : ∀ t : Nat, 20 ≤ t → upd σ.1 q v t = σ.1 t := fun t ht => if_neg (by omega)
  match j with
  | 0 => exact absurd rfl hj
  | 1 | 2 | 3 | 4 | 5 | 6 | 7 | 8 | 9 | 10 | 14 | 15 | 16 | 17 | 18 | 19 => rfl
  | 11 => simp only [xe, ms_s, h20 20 (by omega), h20 21 (by omega)]
  | 12 => simp only [xe, ms_s, h20 22 (by omega), h20 23 (by omega)]
  | 13 => simp only [xe, ms_s, h20 24 (by omega), h20 25 (by omega)]
  | k + 20 => rfl
theorem xe_w {w : Nat} (hw : w < 3) : xe dA z K σ (11 + w) = .inr (5, [.ref (z.1 (7 * w + 20)), .ref (z.1 (14 + w)), .ref (z.1 (7 * w + 5 + 20)), .ref (z.1 (7 * w + 6 + 20)), .int (σ.1 (20 + 2 * w)), .int (σ.1 (21 + 2 * w)), .ref (z.1 0)]) := by
  rcases (show w = 0 ∨ w = 1 ∨ w = 2 by omega) with rfl | rfl | rfl <;> rfl
theorem sx_w {w : Nat} (hw : w < 3) : (SW dA z K σ)[11 + w]? = some (z.1 (11 + w), .inr (5, [.ref (z.1 (7 * w + 20)), .ref (z.1 (14 + w)), .ref (z.1 (7 * w + 5 + 20)), .ref (z.1 (7 * w + 6 + 20)), .int (σ.1 (20 + 2 * w)), .int (σ.1 (21 + 2 * w)), .ref (z.1 0)])) := by
  rw [sx_at (by omega), xe_w hw]
theorem sx_w4 {w : Nat} {v : Int32} (hw : w < 3) : (SW dA z K σ).set (11 + w) (z.1 (11 + w), .inr (5, [.ref (z.1 (7 * w + 20)), .ref (z.1 (14 + w)), .ref (z.1 (7 * w + 5 + 20)), .ref (z.1 (7 * w + 6 + 20)), .int v, .int (σ.1 (21 + 2 * w)), .ref (z.1 0)])) = SW dA z K (ms_s σ (20 + 2 * w) v) := by
  rcases (show w = 0 ∨ w = 1 ∨ w = 2 by omega) with rfl | rfl | rfl
  · exact sx_set (by decide) (fun j hj => by match j with
      | 11 => exact absurd rfl hj
      | 0 | 1 | 2 | 3 | 4 | 5 | 6 | 7 | 8 | 9 | 10 | 12 | 13 | 14 | 15 | 16 | 17 | 18 | 19 => rfl
      | k + 20 => rfl) rfl
  · exact sx_set (by decide) (fun j hj => by match j with
      | 12 => exact absurd rfl hj
      | 0 | 1 | 2 | 3 | 4 | 5 | 6 | 7 | 8 | 9 | 10 | 11 | 13 | 14 | 15 | 16 | 17 | 18 | 19 => rfl
      | k + 20 => rfl) rfl
  · exact sx_set (by decide) (fun j hj => by match j with
      | 13 => exact absurd rfl hj
      | 0 | 1 | 2 | 3 | 4 | 5 | 6 | 7 | 8 | 9 | 10 | 11 | 12 | 14 | 15 | 16 | 17 | 18 | 19 => rfl
      | k + 20 => rfl) rfl
theorem sx_w5 {w : Nat} {v : Int32} (hw : w < 3) : (SW dA z K σ).set (11 + w) (z.1 (11 + w), .inr (5, [.ref (z.1 (7 * w + 20)), .ref (z.1 (14 + w)), .ref (z.1 (7 * w + 5 + 20)), .ref (z.1 (7 * w + 6 + 20)), .int (σ.1 (20 + 2 * w)), .int v, .ref (z.1 0)])) = SW dA z K (ms_s σ (21 + 2 * w) v) := by
  rcases (show w = 0 ∨ w = 1 ∨ w = 2 by omega) with rfl | rfl | rfl
  · exact sx_set (by decide) (fun j hj => by match j with
      | 11 => exact absurd rfl hj
      | 0 | 1 | 2 | 3 | 4 | 5 | 6 | 7 | 8 | 9 | 10 | 12 | 13 | 14 | 15 | 16 | 17 | 18 | 19 => rfl
      | k + 20 => rfl) rfl
  · exact sx_set (by decide) (fun j hj => by match j with
      | 12 => exact absurd rfl hj
      | 0 | 1 | 2 | 3 | 4 | 5 | 6 | 7 | 8 | 9 | 10 | 11 | 13 | 14 | 15 | 16 | 17 | 18 | 19 => rfl
      | k + 20 => rfl) rfl
  · exact sx_set (by decide) (fun j hj => by match j with
      | 13 => exact absurd rfl hj
      | 0 | 1 | 2 | 3 | 4 | 5 | 6 | 7 | 8 | 9 | 10 | 11 | 12 | 14 | 15 | 16 | 17 | 18 | 19 => rfl
      | k + 20 => rfl) rfl
theorem sx_fw {w : Nat} (hw : w < 3) : (SW dA z K σ)[14 + w]? = some (z.1 (14 + w), .inl (dA 8, 4, xq (fun b => some (z.1 (b + (7 * w + 1) + 20))))) := by
  rw [sx_at (by omega)]
  rcases (show w = 0 ∨ w = 1 ∨ w = 2 by omega) with rfl | rfl | rfl <;> rfl
theorem sx_p {p : Nat} (hp : p < 2) : (SW dA z K σ)[5 + p]? = some (z.1 (5 + p), .inr (4, [.ref (z.1 (7 + 2 * p)), .ref (z.1 (8 + 2 * p))])) := by
  rw [sx_at (by omega)]
  rcases (show p = 0 ∨ p = 1 by omega) with rfl | rfl <;> rfl
theorem sx_ps {p : Nat} (hp : p < 2) : (SW dA z K σ)[7 + 2 * p]? = some (z.1 (7 + 2 * p), .inl (dA 6, 21, xq (fun d => some (z.1 (d + (21 + 42 * p) + 20))))) := by
  rw [sx_at (by omega)]
  rcases (show p = 0 ∨ p = 1 by omega) with rfl | rfl <;> rfl
theorem sx_pr {p : Nat} (hp : p < 2) : (SW dA z K σ)[8 + 2 * p]? = some (z.1 (8 + 2 * p), .inl (dA 7, 21, xq (fun d => some (z.1 (d + (42 + 42 * p) + 20))))) := by
  rw [sx_at (by omega)]
  rcases (show p = 0 ∨ p = 1 by omega) with rfl | rfl <;> rfl
theorem sx_q {q : Nat} (hq : q < 2) : (SW dA z K σ)[17 + q]? = some (z.1 (17 + q), .inr (6, [.ref (z.1 (106 + q + 20)), .ref (z.1 0)])) := by
  rw [sx_at (by omega)]
  rcases (show q = 0 ∨ q = 1 by omega) with rfl | rfl <;> rfl
/-- an array of numbers: its place, its kind, its length -/
def XA (id kd len : Nat) : Prop := id < 109 ∧ xk id = kd ∧ xl id = len
theorem XA_ps {p d : Nat} (hp : p < 2) (hd : d < 21) : XA (d + (21 + 42 * p)) 1 4 := by
  rcases (show p = 0 ∨ p = 1 by omega) with rfl | rfl
  · exact ⟨by omega, by unfold xk; rw [if_neg (by omega), if_pos (by omega)], by unfold xl; rw [if_neg (by omega)]⟩
  · exact ⟨by omega, by unfold xk; rw [if_neg (by omega), if_neg (by omega), if_neg (by omega), if_pos (by omega)], by unfold xl; rw [if_neg (by omega)]⟩
theorem XA_pr {p d : Nat} (hp : p < 2) (hd : d < 21) : XA (d + (42 + 42 * p)) 2 4 := by
  rcases (show p = 0 ∨ p = 1 by omega) with rfl | rfl
  · exact ⟨by omega, by unfold xk; rw [if_neg (by omega), if_neg (by omega), if_pos (by omega)], by unfold xl; rw [if_neg (by omega)]⟩
  · exact ⟨by omega, by unfold xk; rw [if_neg (by omega), if_neg (by omega), if_neg (by omega), if_neg (by omega), if_pos (by omega)], by unfold xl; rw [if_neg (by omega)]⟩
theorem XA_i {id : Nat} (h : id < 21) : XA id 0 4 := ⟨by omega, by unfold xk; rw [if_pos h], by unfold xl; rw [if_neg (by omega)]⟩
theorem XA_sd {w : Nat} (hw : w < 3) : XA (7 * w) 0 4 := XA_i (by omega)
theorem XA_fl {w : Nat} (hw : w < 3) : XA (7 * w + 5) 0 4 := XA_i (by omega)
theorem XA_tk {w : Nat} (hw : w < 3) : XA (7 * w + 6) 0 4 := XA_i (by omega)
theorem XA_fr {w b : Nat} (hw : w < 3) (hb : b < 4) : XA (b + (7 * w + 1)) 0 4 := XA_i (by omega)
theorem XA_st {q : Nat} (hq : q < 2) : XA (106 + q) 1 4 := by
  rcases (show q = 0 ∨ q = 1 by omega) with rfl | rfl <;> exact ⟨by decide, by decide, by decide⟩
theorem XA_tx : XA 105 1 200 := ⟨by decide, by decide, by decide⟩
theorem XA_bs : XA 108 1 4 := ⟨by decide, by decide, by decide⟩
theorem sx_a {id kd len : Nat} (h : XA id kd len) : (SW dA z K σ)[id + 20]? = some (z.1 (id + 20), .inl (dA kd, len, .inl (σ.2 id))) := by
  obtain ⟨h1, rfl, rfl⟩ := h
  exact sx_at (by omega)
/-- a whole array is new -/
def ms_w (σ : MSt) (id : Nat) (f : Nat → Int32) : MSt := (σ.1, fun q => if q = id then f else σ.2 q)
theorem sx_aw {id kd len : Nat} (h : XA id kd len) (f : Nat → Int32) : (SW dA z K σ).set (id + 20) (z.1 (id + 20), .inl (dA kd, len, .inl f)) = SW dA z K (ms_w σ id f) := by
  obtain ⟨h1, rfl, rfl⟩ := h
  refine sx_set (by omega) (fun j hj => ?_) (by show Sum.inl (dA (xk id), xl id, Sum.inl (if id = id then f else σ.2 id)) = _; rw [if_pos rfl])
  match j with
  | 0 | 1 | 2 | 3 | 4 | 5 | 6 | 7 | 8 | 9 | 10 | 11 | 12 | 13 | 14 | 15 | 16 | 17 | 18 | 19 => rfl
  | k + 20 =>
    show Sum.inl (dA (xk k), xl k, Sum.inl (σ.2 k)) = Sum.inl (dA (xk k), xl k, Sum.inl (if k = id then f else σ.2 k))
    rw [if_neg (by omega)]
theorem ms_aw (σ : MSt) (id j : Nat) (x : Int32) : ms_w σ id (upd (σ.2 id) j x) = ms_a σ id j x := by
  unfold ms_w ms_a sv_u2
  congr 1
theorem sx_as {id kd len : Nat} (h : XA id kd len) {j : Nat} {x : Int32} : (SW dA z K σ).set (id + 20) (z.1 (id + 20), .inl (dA kd, len, .inl (upd (σ.2 id) j x))) = SW dA z K (ms_a σ id j x) := by
  rw [sx_aw h, ms_aw]
theorem sx_pool {a : Nat} (h : a ∈ z.2.2.2.2.2.2.2.1) : ∃ k : Nat, (SW dA z K σ)[k]? = some (a, z.2.2.2.2.2.2.2.2 a) := va_pl_get h
end SX
theorem sv_ixl {i : Int32} {n j : Nat} (h : sv_ix i n = some j) : j < n := by
  obtain ⟨h1, h2⟩ := sv_ix_in h
  have : ¬ n ≤ i.toNatClampNeg := fun q => h1 (Or.inr q)
  omega
section SY
variable {Γ : sv_G} {cc : ByteArray} {nL : Nat} {own : String} {ret : Option FieldType} {R : Room} {X : va_W} {k n pc : Nat} {lv : List (Nat × Value)} {st : List Value}
/-- a word of the tables that doesn't ride in the lists -/
theorem sv_C.nwF (h : sv_C Γ cc nL own ret R) {a : String} {i : Nat} {b nm d hs : String} (hq : Cond.fieldLinkNest a i b nm d hs ∈ lw_tbl) : (Cond.fieldLinkNest a i b nm d hs).before (sg_args Γ) (sg_s Γ) = true := by
  obtain ⟨b0, h1, -⟩ := h.F.2
  exact va_Nw.use rfl (va_Nw.warmF h.E.1 (va_Nw.of rfl (h1 _ hq)))
theorem sv_C.nwM (h : sv_C Γ cc nL own ret R) {a : String} {i : Nat} {y : MethodName} {hs : String} (hq : Cond.methodLinkNest a i y hs ∈ lw_tbl) : va_Nw (Cond.methodLinkNest a i y hs) (sg_s Γ) := by
  obtain ⟨b0, h1, -⟩ := h.F.2
  exact va_Nw.warmM h.E.1 (va_Nw.of rfl (h1 _ hq))
theorem sv_C.nwC (h : sv_C Γ cc nL own ret R) {C T : String} (hq : Cond.castable C T ∈ lw_tbl) : va_Nw (Cond.castable C T) (sg_s Γ) := by
  obtain ⟨b0, h1, -⟩ := h.F.2
  exact va_Nw.warmC h.E.1 (va_Nw.of rfl (h1 _ hq))
theorem sv_getN (hC : sv_C Γ cc nL own ret R) {ref C host : String} {T : u_T} {N ci index a : Nat} (hin : ∀ w ∈ u_ws C T N, w ∈ lw_all) (q0 : Nat) {fs : List Value} (he : X[q0]? = some (a, .inr (ci, fs))) (hc : sv_cl[ci]? = some (C, T, N)) (f : Nat) (hk : f < N) (hq : Cond.fieldLinkNest own index ref (T f).2.1 (T f).2.2.1 host ∈ lw_tbl) (hr : ref = (T f).1) {v : Value} (hv : fs[f]? = some v) (d : decode cc pc = .ok (.getfield index, 3))
    (kk : sv_V Γ X k n (pc + 3) lv (v :: st)) : sv_V Γ X k n pc lv (.ref a :: st) := fun H locs ls hP hD hS hl => va_getN hC.x hC.b hC.ts hin hC.ow hC.K hP q0 he hc f hk (hC.nwF hq) (fun x h => by rw [hr]; exact h) hv d (kk H locs ls hP hD hS hl)
/-- a reference out of an array, known not to be null -/
theorem sv_aldr (hC : sv_C Γ cc nL own ret R) (q0 t0 : Nat) {a : Nat} {cA : ClassId} {nn : Nat} {f : Nat → Option Nat} {ty : FieldType} (ha : X[q0]? = some (a, .inl (cA, nn, .inr (.inr (.inr (.inr f)))))) (ht : (sv_ty (sg_dA Γ))[t0]? = some (cA, ty)) (hty : ty.isReference = true) {i : Int32} {j b : Nat} (hj : sv_ix i nn = some j) (hb : f j = some b) (d : decode cc pc = .ok (.aaload, 1)) (kk : sv_V Γ X k n (pc + 1) lv (.ref b :: st)) : sv_V Γ X k n pc lv (.int i :: .ref a :: st) := fun H locs ls hP hD hS hl => by
  have hlt := sv_ixl hj
  obtain ⟨h1, h2⟩ := sv_ix_in hj
  refine W.aald (v := .ref b) (ty := ty) hC.x hC.b (hP q0 _ ha) ((hC.K.2 t0 _ ht).1 nn (fun j => va_rf (f j))) hty (fun q => by cases q) (by show ¬ (i < 0 ∨ (arrV _ _ _).slots.size ≤ _); rw [arrV_size]; exact h1) ?_ rfl rfl d (kk H locs ls hP hD hS hl)
  show (arrV _ _ _).slots[_]? = _
  rw [h2, arrV_read _ _ hlt, hb]
  rfl
theorem sv_ifnullM (hC : sv_C Γ cc nL own ret R) {α : Type} {o : Option α} {g : α → Nat} {off : Int} {tgt : Nat} (d : decode cc pc = .ok (.ifnull off, 3)) (ht : (pc : Int) + off = (tgt : Int)) (kt : o = none → sv_V Γ X k n tgt lv st) (kf : ¬ o = none → sv_V Γ X k n (pc + 3) lv st) : sv_V Γ X k n pc lv (va_rf (o.map g) :: st) := by
  cases o with
  | none => exact sv_ifnullN hC d ht (kt rfl)
  | some v => exact sv_ifnull hC d (kf (fun h => by cases h))
theorem sv_ifnonnullM (hC : sv_C Γ cc nL own ret R) {α : Type} {o : Option α} {g : α → Nat} {off : Int} {tgt : Nat} (d : decode cc pc = .ok (.ifnonnull off, 3)) (ht : (pc : Int) + off = (tgt : Int)) (kt : ¬ o = none → sv_V Γ X k n tgt lv st) (kf : o = none → sv_V Γ X k n (pc + 3) lv st) : sv_V Γ X k n pc lv (va_rf (o.map g) :: st) := by
  cases o with
  | none => exact sv_ifnonnullN hC d (kf rfl)
  | some v => exact sv_ifnonnull hC d ht (kt (fun h => by cases h))
theorem sv_aloadO (hC : sv_C Γ cc nL own ret R) {q : Nat} {o : Option Nat} (d : decode cc pc = .ok (.aload q, 2)) (j : Nat) (hj : lv[j]? = some (q, va_rf o)) (kk : sv_V Γ X k n (pc + 2) lv (va_rf o :: st)) : sv_V Γ X k n pc lv st := by
  cases o with
  | none => exact fun H locs ls hP hD hS hl => lv_aloadN hC.x hC.b d (lv_at hl j hj) (kk H locs ls hP hD hS hl)
  | some a => exact sv_aload hC d j hj kk
theorem sv_aload_nO (hC : sv_C Γ cc nL own ret R) {i : Fin 4} {q : Nat} {o : Option Nat} (d : decode cc pc = .ok (.aload_n i, 1)) (j : Nat) (hj : lv[j]? = some (q, va_rf o)) (hi : (i : Nat) = q) (kk : sv_V Γ X k n (pc + 1) lv (va_rf o :: st)) : sv_V Γ X k n pc lv st := by
  cases o with
  | none => exact sv_aload_nN hC d j hj hi kk
  | some a => exact sv_aload_n hC d j hj hi kk
theorem sv_astore_nO (hC : sv_C Γ cc nL own ret R) {i : Fin 4} {q : Nat} {o : Option Nat} {lvq : List (Nat × Value)} (d : decode cc pc = .ok (.astore_n i, 1)) (hi : (i : Nat) = q) (hn : q < nL) (hl2 : (q, va_rf o) :: lv.filter (fun x => !(x.1 == q) && !(x.1 + 1 == q && x.2.category == 2)) = lvq) (kk : sv_V Γ X k n (pc + 1) lvq st) : sv_V Γ X k n pc lv (va_rf o :: st) := by
  cases o with
  | none => exact fun H locs ls hP hD hS hl => lv_astore_nN hC.x hC.b d hi hl (by rw [hC.nl]; exact hn) hl2 (fun ls hl => kk H locs ls hP hD hS hl)
  | some a => exact sv_astore_n hC d hi hn hl2 kk
theorem sv_astoreO (hC : sv_C Γ cc nL own ret R) {q : Nat} {o : Option Nat} {lvq : List (Nat × Value)} (d : decode cc pc = .ok (.astore q, 2)) (hn : q < nL) (hl2 : (q, va_rf o) :: lv.filter (fun x => !(x.1 == q) && !(x.1 + 1 == q && x.2.category == 2)) = lvq) (kk : sv_V Γ X k n (pc + 2) lvq st) : sv_V Γ X k n pc lv (va_rf o :: st) := by
  cases o with
  | none => exact fun H locs ls hP hD hS hl => lv_astoreN hC.x hC.b d hl (by rw [hC.nl]; exact hn) hl2 (fun ls hl => kk H locs ls hP hD hS hl)
  | some a => exact sv_astore hC d hn hl2 kk
/-- a virtual call that needs nothing of the world but its receiver -/
theorem sv_pVi (hC : sv_C Γ cc nL own ret R) {index nn : Nat} {y : MethodName} {bb : ByteArray} {L : Nat} {rt : Option FieldType} {rm : Room} {C : String} {b : Nat} {As rest : List Value} {r : Int32}
    (hM : sv_M (sg_l Γ) (sg_s0 Γ) (sg_D Γ) y bb L rt rm (.ref b :: As) [] (sv_pI r [])) (q0 ci : Nat) {fs : List Value} {q : vw_C} (he : X[q0]? = some (b, .inr (ci, fs))) (hc : sv_cl[ci]? = some q) (hqC : q.1 = C) (hG : GoodIn lw_all (wsV own index C y (ws_ y bb L rt)))
    (hd : y.cls = C ∧ y.cls ≠ "java/lang/invoke/MethodHandle" ∧ y.cls ≠ "java/lang/invoke/VarHandle" ∧ (parseMethodDescriptor y.desc).map (fun d => d.parameters.length) = some nn) (hR : rm.frames + 1 ≤ R.frames ∧ 8 + (L + 11) + rm.locals ≤ R.locals) (hz : rm.cells = 0 ∧ rm.slots = 0) (hn : As.length = nn) {st0 : List Value} (hst : st0 = As.reverse ++ .ref b :: rest) (hW : (rest.map fun v => v.category).sum ≤ 8) (hf : k ≤ R.cells ∧ n ≤ R.slots) (d : decode cc pc = .ok (.invokevirtual index, 3))
    (kk : sv_V Γ X k n (pc + 3) lv (.int r :: rest)) : sv_V Γ X k n pc lv st0 :=
  sv_callV (Xc := []) hC [] (List.range X.length) rfl (sv_all X) rfl (sv_nd _) (fun i _ h => by cases h) hM q0 ci he hc hqC hG hd hR hn hst hW (by rw [hz.1, hz.2]; exact hf) d (fun v W hp => by
    obtain ⟨rfl, rfl⟩ := hp
    rw [List.append_nil, hz.1, hz.2]
    exact kk)
/-- a virtual call by a nest mate's link, the whole world goes -/
theorem sv_wVNi (hC : sv_C Γ cc nL own ret R) {index nn : Nat} {host : String} {y : MethodName} {bb : ByteArray} {L : Nat} {rt : Option FieldType} {rm : Room} {C : String} {b : Nat} {As rest : List Value} {r : Int32} {X' : va_W}
    (hM : sv_M (sg_l Γ) (sg_s0 Γ) (sg_D Γ) y bb L rt rm (.ref b :: As) X (sv_pI r X')) (q0 ci : Nat) {fs : List Value} {q : vw_C} (he : X[q0]? = some (b, .inr (ci, fs))) (hc : sv_cl[ci]? = some q) (hqC : q.1 = C) (hl0 : Cond.methodLinkNest own index y host ∈ lw_tbl) (hG : GoodIn lw_all (ws_ y bb L rt)) (hi1 : Cond.instanceMethod y ∈ lw_all) (hi2 : Cond.selects C y y ∈ lw_all) (hi3 : Cond.initialized y.cls ∈ lw_all)
    (hd : y.cls ≠ "java/lang/invoke/MethodHandle" ∧ y.cls ≠ "java/lang/invoke/VarHandle" ∧ (parseMethodDescriptor y.desc).map (fun d => d.parameters.length) = some nn) (hR : rm.frames + 1 ≤ R.frames ∧ 8 + (L + 11) + rm.locals ≤ R.locals) (hz : rm.cells = 0 ∧ rm.slots = 0) (hn : As.length = nn) {st0 : List Value} (hst : st0 = As.reverse ++ .ref b :: rest) (hW : (rest.map fun v => v.category).sum ≤ 8) (hf : k ≤ R.cells ∧ n ≤ R.slots) (d : decode cc pc = .ok (.invokevirtual index, 3))
    (kk : sv_V Γ X' k n (pc + 3) lv (.int r :: rest)) : sv_V Γ X k n pc lv st0 := fun H locs ls hP hD hS hl => by
  subst hst
  subst hqC
  have hR2 := hC.Rm
  refine sv_after (Xr := []) (Xc := X) (mc := rm.cells) (ms := rm.slots) (List.range X.length) [] (sv_all X) rfl rfl (fun i h => by cases h) hC.hA hP hD hS hl (va_runVN (C := q.1) (host := host) (b := b) (As := As) ⟨hC.x, hC.b, hC.ml, hC.ow, hC.ts⟩ (hM H.size) (by rw [hR2]; exact ⟨va_cnB nn hC.ts hG rfl rfl rfl (hC.nwM hl0) (hC.ts _ hi3) hd hR, hC.ts _ hi1, hC.ts _ hi2⟩) ⟨sv_blind, va_recv hC.K hP hc he, sv_pre hC (List.range X.length) (sv_all X) (sv_nd _) hP hD hS⟩ rfl hn (by rw [← hC.nl]; exact hl.1) rfl (lv_room hW) d (by rw [hR2, hz.1, hz.2]; exact hf)) (fun v W hp => by
    obtain ⟨rfl, rfl⟩ := hp
    rw [hz.1, hz.2]
    exact kk)
/-- arraycopy between two arrays of numbers of one type -/
theorem sv_copy (hC : sv_C Γ cc nL own ret R) {index : Nat} (hq : Cond.methodLink own index arraycopyName ∈ lw_all) (hq1 : Cond.native arraycopyName ∈ lw_all) (hq2 : Cond.static arraycopyName ∈ lw_all) (hq3 : Cond.initialized "java/lang/System" ∈ lw_all) (q0 q1 t : Nat) {a0 a1 : Nat} {c0 : ClassId} {n0 n1 : Nat} {f g : Nat → Int32} {ty : FieldType} (ha0 : X[q0]? = some (a0, .inl (c0, n0, .inl f))) (ha1 : X[q1]? = some (a1, .inl (c0, n1, .inl g))) (ht : (sv_ty (sg_dA Γ))[t]? = some (c0, ty)) (hprim : refKind ty = false)
    {sp dp m : Int32} (h1 : ¬ sp < 0) (h2 : ¬ dp < 0) (h3 : ¬ m < 0) (h4 : sp.toNatClampNeg + m.toNatClampNeg ≤ n0) (h5 : dp.toNatClampNeg + m.toNatClampNeg ≤ n1) (hfit : ∀ i, i < m.toNatClampNeg → fits ty (.int (f (sp.toNatClampNeg + i))) = true) {X' : va_W} (hX : X.set q1 (a1, .inl (c0, n1, .inl (va_cpy f g sp.toNatClampNeg dp.toNatClampNeg m.toNatClampNeg))) = X')
    (hfr : 1 ≤ R.frames) (hlo : (st.map fun v => v.category).sum + (nativeFrameWords "java/lang/System" "arraycopy" 5 + 11) ≤ R.locals) (d : decode cc pc = .ok (.invokestatic index, 3)) (kk : sv_V Γ X' k n (pc + 3) lv st) : sv_V Γ X k n pc lv (.int m :: .int dp :: .ref a1 :: .int sp :: .ref a0 :: st) := fun H locs ls hP hD hS hl =>
  va_copyi hC.x hC.b (by rw [hC.ml, ← hC.nl]; exact hl.1.symm) hC.ow (hC.ts _ hq) (hC.ts _ hq1) (hC.ts _ hq2) (hC.ts _ hq3) hC.K hP hD hS q0 q1 t t ha0 ha1 ht ht hprim h1 h2 h3 h4 h5 hfit (by rw [hC.Rm]; exact hfr) (by rw [hC.Rm]; exact hlo) d (fun H1 locs1 hP1 hD1 hS1 => kk H1 locs1 ls (hX ▸ hP1) (hX ▸ hD1) hS1 hl)
/-- the callee's world is one cell -/
theorem sv_cellW {D : va_G} {A : Nat → Prop} {q0 : Nat} {c c' : Nat × va_E} {H : Heap} (he : X[q0]? = some c) (hcc : c'.1 = c.1) (hP : va_P D sv_cl (((List.range X.length).filter (fun i => decide (i ≠ q0))).filterMap (fun i => X[i]?) ++ [c']) H) (hD : va_D A X) : va_P D sv_cl (X.set q0 c') H ∧ va_D A (X.set q0 c') := by
  have hl := (List.getElem?_eq_some_iff.mp he).1
  refine ⟨fun j q hj => ?_, ?_⟩
  · by_cases hjq : j = q0
    · subst hjq
      rw [List.getElem?_set_self hl] at hj
      cases hj
      exact hP _ c' (by rw [List.getElem?_append_right (Nat.le_refl _), Nat.sub_self]; rfl)
    · rw [List.getElem?_set_ne (Ne.symm hjq)] at hj
      have hjl := (List.getElem?_eq_some_iff.mp hj).1
      have hm : q ∈ ((List.range X.length).filter (fun i => decide (i ≠ q0))).filterMap (fun i => X[i]?) := List.mem_filterMap.mpr ⟨j, List.mem_filter.mpr ⟨List.mem_range.mpr hjl, by simpa using hjq⟩, hj⟩
      obtain ⟨i, hi⟩ := List.getElem?_of_mem (List.mem_append_left [c'] hm)
      exact hP i q hi
  · have h := hD.set (e := c'.2) (show X[q0]? = some (c.1, c.2) from he)
    rw [← hcc] at h
    exact h
theorem sv_restX (X : va_W) (is : List Nat) (h : ∀ i ∈ is, i < X.length) : is.map (fun i => X[i]?) = (is.filterMap (fun i => X[i]?)).map some := by
  induction is with
  | nil => rfl
  | cons a l ih =>
    have h1 := h a List.mem_cons_self
    rw [List.map_cons, List.filterMap_cons, ih (fun i hi => h i (List.mem_cons_of_mem _ hi)), List.getElem?_eq_getElem h1]
    rfl
/-- a static call whose world is one array -/
theorem sv_cS (hC : sv_C Γ cc nL own ret R) {index nn : Nat} {y : MethodName} {bb : ByteArray} {L : Nat} {rt : Option FieldType} {rm : Room} {As rest : List Value} {c c' : Nat × va_E} (q0 : Nat) (he : X[q0]? = some c) (hcc : c'.1 = c.1)
    (hM : sv_M (sg_l Γ) (sg_s0 Γ) (sg_D Γ) y bb L rt rm As [c] (sv_pV [c'])) (hG : GoodIn lw_all (va_wsS own index y (ws_ y bb L rt))) {X' : va_W} (hX : X.set q0 c' = X')
    (hd : y.cls ≠ "java/lang/invoke/MethodHandle" ∧ y.cls ≠ "java/lang/invoke/VarHandle" ∧ (parseMethodDescriptor y.desc).map (fun d => d.parameters.length) = some nn) (hR : rm.frames + 1 ≤ R.frames ∧ 8 + (L + 11) + rm.locals ≤ R.locals) (hz : rm.cells = 0 ∧ rm.slots = 0) (hn : As.length = nn) {st0 : List Value} (hst : st0 = As.reverse ++ rest) (hW : (rest.map fun v => v.category).sum ≤ 8) (hf : k ≤ R.cells ∧ n ≤ R.slots) (d : decode cc pc = .ok (.invokestatic index, 3))
    (kk : sv_V Γ X' k n (pc + 3) lv rest) : sv_V Γ X k n pc lv st0 := fun H0 locs0 ls0 hP0 hD0 hS0 hl0 => by
  have hl := (List.getElem?_eq_some_iff.mp he).1
  refine sv_callS (Xc := [c]) (Xr := ((List.range X.length).filter (fun i => decide (i ≠ q0))).filterMap (fun i => X[i]?)) hC [q0] ((List.range X.length).filter (fun i => decide (i ≠ q0))) (by rw [List.map_cons, he]; rfl) (sv_restX X _ (fun i hi => List.mem_range.mp (List.mem_filter.mp hi).1)) rfl (sv_ndR _ (List.Pairwise.sublist List.filter_sublist List.nodup_range)) (fun i hi h => by
    have h1 := (List.mem_filter.mp hi).2
    rw [List.mem_singleton] at h
    subst h
    simp at h1) hM hG hd hR hn hst hW (by rw [hz.1, hz.2]; exact hf) d (fun v W hp => ?_) H0 locs0 ls0 hP0 hD0 hS0 hl0
  obtain ⟨rfl, rfl⟩ := hp
  rw [hz.1, hz.2]
  intro H locs ls hP hD hS hl2
  obtain ⟨g1, g2⟩ := sv_cellW he hcc hP hD0
  exact kk H locs ls (hX ▸ g1) (hX ▸ g2) hS hl2
end SY
