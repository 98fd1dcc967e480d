/-! THE V-KIT: one judgement over a world list, a list of locals and a stack; each row wraps a row of the kit -/
set_option maxRecDepth 100000
/-- program, launch, env, room, state at the method's start, method, args, frames below, method record, code, locals, class table, cells that may change, end, state at the law's start, array classes -/
abbrev sv_G : Type := Program × Launch × Env × Room × State × MethodId × Array Value × List Frame × Method × Code × Nat × va_G × (Nat → Prop) × (State → Prop) × State × (Nat → ClassId)
abbrev sg_p (Γ : sv_G) : Program := Γ.1
abbrev sg_l (Γ : sv_G) : Launch := Γ.2.1
abbrev sg_e (Γ : sv_G) : Env := Γ.2.2.1
abbrev sg_R (Γ : sv_G) : Room := Γ.2.2.2.1
abbrev sg_s (Γ : sv_G) : State := Γ.2.2.2.2.1
abbrev sg_m (Γ : sv_G) : MethodId := Γ.2.2.2.2.2.1
abbrev sg_args (Γ : sv_G) : Array Value := Γ.2.2.2.2.2.2.1
abbrev sg_below (Γ : sv_G) : List Frame := Γ.2.2.2.2.2.2.2.1
abbrev sg_meth (Γ : sv_G) : Method := Γ.2.2.2.2.2.2.2.2.1
abbrev sg_c (Γ : sv_G) : Code := Γ.2.2.2.2.2.2.2.2.2.1
abbrev sg_nL (Γ : sv_G) : Nat := Γ.2.2.2.2.2.2.2.2.2.2.1
abbrev sg_D (Γ : sv_G) : va_G := Γ.2.2.2.2.2.2.2.2.2.2.2.1
abbrev sg_A (Γ : sv_G) : Nat → Prop := Γ.2.2.2.2.2.2.2.2.2.2.2.2.1
abbrev sg_Q (Γ : sv_G) : State → Prop := Γ.2.2.2.2.2.2.2.2.2.2.2.2.2.1
abbrev sg_s0 (Γ : sv_G) : State := Γ.2.2.2.2.2.2.2.2.2.2.2.2.2.2.1
abbrev sg_dA (Γ : sv_G) : Nat → ClassId := Γ.2.2.2.2.2.2.2.2.2.2.2.2.2.2.2
/-- the machine's tables at U came from those of s0, and no cell of s0's heap has changed -/
def sv_E (s0 U : State) : Prop := s0.WarmedH U.vm ∧ s0.heap.size ≤ U.heap.size ∧ ∀ q : Nat, q < s0.heap.size → U.heap[q]? = s0.heap[q]?
theorem sv_E.calling {s0 U : State} (h : sv_E s0 U) (g : JFrame) (mk : MethodId) (a : Array Value) : sv_E s0 (U.calling g mk a) := ⟨h.1, h.2.1, h.2.2⟩
/-- what is known of the tables at the law's start -/
def sv_F (s0 : State) (D : va_G) (dA : Nat → ClassId) : Prop := va_K D sv_cl (sv_ty dA) s0 ∧ ∃ b : Nat, (∀ w ∈ lw_tbl, w.before #[Value.ref b] s0 = true) ∧ (Jvm.Cond.and given_1 narrow_1).before #[Value.ref b] s0 = true
/-- what holds all through a method -/
def sv_C (Γ : sv_G) (cc : ByteArray) (nL : Nat) (own : String) (ret : Option FieldType) (R : Room) : Prop :=
  (sg_p Γ).tables.exec = Jvm.exec ∧ (sg_c Γ).code = cc ∧ (sg_c Γ).maxLocals = nL ∧ (sg_s Γ).vm.findClass own = some (sg_m Γ).cls ∧ (∀ w ∈ lw_all, w.before (sg_args Γ) (sg_s Γ) = true) ∧ va_K (sg_D Γ) sv_cl (sv_ty (sg_dA Γ)) (sg_s Γ) ∧ (∀ q : Nat, (sg_s Γ).heap.size ≤ q → sg_A Γ q) ∧ (sg_meth Γ).sig.returnType = ret ∧ (sg_meth Γ).locks = false ∧ sg_R Γ = R ∧ sg_nL Γ = nL ∧ sv_F (sg_s0 Γ) (sg_D Γ) (sg_dA Γ) ∧ sv_E (sg_s0 Γ) (sg_s Γ) ∧ (∀ q : Nat, sg_A Γ q → (sg_s0 Γ).heap.size ≤ q) ∧ True

/-- THE JUDGEMENT: from any heap that holds the world X, with these locals and this stack, the method comes to its end -/
def sv_V (Γ : sv_G) (X : va_W) (k n : Nat) (pc : Nat) (lv : List (Nat × Value)) (st : List Value) : Prop :=
  ∀ (H : Heap) (locs : List Loc) (ls : Array Slot), va_P (sg_D Γ) sv_cl X H → va_D (sg_A Γ) X → va_S (sg_A Γ) (sg_s Γ).heap H locs → lv_has ls (sg_nL Γ) lv →
    W (sg_p Γ) (sg_l Γ) (sg_e Γ) (sg_R Γ) (sg_s Γ) (sg_m Γ) (sg_args Γ) (sg_below Γ) (sg_meth Γ) (sg_c Γ) H locs k n (sg_Q Γ) (F0 (sg_m Γ) pc ls st)
theorem sv_ob {α β : Type} {o : Option α} {f : α → Option β} {r : β} (h : o.bind f = some r) : ∃ v, o = some v ∧ f v = some r := by
  cases o with
  | none => cases h
  | some v => exact ⟨v, rfl, h⟩
theorem sv_it {c : Prop} {i : Decidable c} {α : Type} {a b r : α} (hc : c) (h : (if c then a else b) = r) : a = r := by rw [if_pos hc] at h; exact h
theorem sv_if {c : Prop} {i : Decidable c} {α : Type} {a b r : α} (hc : ¬ c) (h : (if c then a else b) = r) : b = r := by rw [if_neg hc] at h; exact h
theorem sv_gd {c : Prop} {i : Decidable c} {α : Type} {a : Option α} {r : α} (h : (if c then a else none) = some r) : c ∧ a = some r := by
  by_cases hc : c
  · rw [if_pos hc] at h; exact ⟨hc, h⟩
  · rw [if_neg hc] at h; cases h
theorem sv_gn {c : Prop} {i : Decidable c} {α : Type} {a : Option α} {r : α} (h : (if c then none else a) = some r) : ¬ c ∧ a = some r := by
  by_cases hc : c
  · rw [if_pos hc] at h; cases h
  · rw [if_neg hc] at h; exact ⟨hc, h⟩
/-- an index of an array of n places -/
def sv_ix (i : Int32) (n : Nat) : Option Nat := if i < 0 then none else if i.toNatClampNeg < n then some i.toNatClampNeg else none
theorem sv_ix_in {i : Int32} {n j : Nat} (h : sv_ix i n = some j) : vp_in i n ∧ i.toNatClampNeg = j := by
  unfold sv_ix at h
  by_cases h1 : i < 0
  · rw [if_pos h1] at h; cases h
  · rw [if_neg h1] at h
    by_cases h2 : i.toNatClampNeg < n
    · rw [if_pos h2] at h
      cases h
      exact ⟨fun z => by rcases z with z | z; exact h1 z; omega, rfl⟩
    · rw [if_neg h2] at h; cases h
/-- a boolean answer is 0 or 1 -/
def sv_zb (v : Int32) : Option Int32 := if v = 0 ∨ v = 1 then some v else none
theorem sv_zb_n {v w : Int32} (h : sv_zb v = some w) : v = w ∧ narrow .boolean (.int w) = .int w := by
  unfold sv_zb at h
  obtain ⟨h1, h2⟩ := sv_gd h
  cases h2
  refine ⟨rfl, ?_⟩
  rcases h1 with rfl | rfl <;> rfl
def sv_u2 (f : Nat → Nat → Int32) (k j : Nat) (x : Int32) : Nat → Nat → Int32 := fun q => if q = k then upd (f k) j x else f q
section SV
variable {Γ : sv_G} {cc : ByteArray} {nL : Nat} {own : String} {ret : Option FieldType} {R : Room} {X : va_W} {k n pc : Nat} {lv : List (Nat × Value)} {st : List Value}
theorem sv_C.x (h : sv_C Γ cc nL own ret R) : (sg_p Γ).tables.exec = Jvm.exec := h.1
theorem sv_C.b (h : sv_C Γ cc nL own ret R) : (sg_c Γ).code = cc := h.2.1
theorem sv_C.ml (h : sv_C Γ cc nL own ret R) : (sg_c Γ).maxLocals = nL := h.2.2.1
theorem sv_C.ow (h : sv_C Γ cc nL own ret R) : (sg_s Γ).vm.findClass own = some (sg_m Γ).cls := h.2.2.2.1
theorem sv_C.ts (h : sv_C Γ cc nL own ret R) : ∀ w ∈ lw_all, w.before (sg_args Γ) (sg_s Γ) = true := h.2.2.2.2.1
theorem sv_C.K (h : sv_C Γ cc nL own ret R) : va_K (sg_D Γ) sv_cl (sv_ty (sg_dA Γ)) (sg_s Γ) := h.2.2.2.2.2.1
theorem sv_C.hA (h : sv_C Γ cc nL own ret R) : ∀ q : Nat, (sg_s Γ).heap.size ≤ q → sg_A Γ q := h.2.2.2.2.2.2.1
theorem sv_C.rt (h : sv_C Γ cc nL own ret R) : (sg_meth Γ).sig.returnType = ret := h.2.2.2.2.2.2.2.1
theorem sv_C.lk (h : sv_C Γ cc nL own ret R) : (sg_meth Γ).locks = false := h.2.2.2.2.2.2.2.2.1
theorem sv_C.Rm (h : sv_C Γ cc nL own ret R) : sg_R Γ = R := h.2.2.2.2.2.2.2.2.2.1
theorem sv_C.nl (h : sv_C Γ cc nL own ret R) : sg_nL Γ = nL := h.2.2.2.2.2.2.2.2.2.2.1
theorem sv_C.F (h : sv_C Γ cc nL own ret R) : sv_F (sg_s0 Γ) (sg_D Γ) (sg_dA Γ) := h.2.2.2.2.2.2.2.2.2.2.2.1
theorem sv_C.E (h : sv_C Γ cc nL own ret R) : sv_E (sg_s0 Γ) (sg_s Γ) := h.2.2.2.2.2.2.2.2.2.2.2.2.1
theorem sv_C.lo (h : sv_C Γ cc nL own ret R) : ∀ q : Nat, sg_A Γ q → (sg_s0 Γ).heap.size ≤ q := h.2.2.2.2.2.2.2.2.2.2.2.2.2.1
theorem sv_C.Eh (h : sv_C Γ cc nL own ret R) {H : Heap} {locs : List Loc} (hS : va_S (sg_A Γ) (sg_s Γ).heap H locs) {U : State} (hU : U.heap = H) (hW : (sg_s Γ).WarmedH U.vm) : sv_E (sg_s0 Γ) U :=
  ⟨State.WarmedH.trans h.E.1 hW, Nat.le_trans h.E.2.1 (by rw [hU]; exact hS.1), fun q hq => by
    rw [hU, hS.2.1 q (Nat.lt_of_lt_of_le hq h.E.2.1) (fun z => by have := h.lo q z; omega)]
    exact h.E.2.2 q hq⟩
theorem sv_iconst (hC : sv_C Γ cc nL own ret R) {i : Int} {v : Int32} (d : decode cc pc = .ok (.iconst i, 1)) (hv : Int32.ofInt i = v) (kk : sv_V Γ X k n (pc + 1) lv (.int v :: st)) : sv_V Γ X k n pc lv st := fun H locs ls hP hD hS hl => lv_iconst hC.x hC.b d hv (kk H locs ls hP hD hS hl)
theorem sv_bipush (hC : sv_C Γ cc nL own ret R) {i : Int} {v : Int32} (d : decode cc pc = .ok (.bipush i, 2)) (hv : (Int8.ofInt i).toInt32 = v) (kk : sv_V Γ X k n (pc + 2) lv (.int v :: st)) : sv_V Γ X k n pc lv st := fun H locs ls hP hD hS hl => lv_bipush hC.x hC.b d hv (kk H locs ls hP hD hS hl)
theorem sv_sipush (hC : sv_C Γ cc nL own ret R) {i : Int} {v : Int32} (d : decode cc pc = .ok (.sipush i, 3)) (hv : (Int16.ofInt i).toInt32 = v) (kk : sv_V Γ X k n (pc + 3) lv (.int v :: st)) : sv_V Γ X k n pc lv st := fun H locs ls hP hD hS hl => lv_sipush hC.x hC.b d hv (kk H locs ls hP hD hS hl)
theorem sv_lconst (hC : sv_C Γ cc nL own ret R) {i : Fin 2} {v : Int64} (d : decode cc pc = .ok (.lconst i, 1)) (hv : Int64.ofNat (i : Nat) = v) (kk : sv_V Γ X k n (pc + 1) lv (.long v :: st)) : sv_V Γ X k n pc lv st := fun H locs ls hP hD hS hl => lv_lconst hC.x hC.b d hv (kk H locs ls hP hD hS hl)
theorem sv_null (hC : sv_C Γ cc nL own ret R)  (d : decode cc pc = .ok (.aconst_null, 1))  (kk : sv_V Γ X k n (pc + 1) lv (.null :: st)) : sv_V Γ X k n pc lv st := fun H locs ls hP hD hS hl => lv_null hC.x hC.b d (kk H locs ls hP hD hS hl)
theorem sv_iload_n (hC : sv_C Γ cc nL own ret R) {i : Fin 4} {q : Nat} {x : Int32} (d : decode cc pc = .ok (.iload_n i, 1)) (j : Nat) (hj : lv[j]? = some (q, .int x)) (hi : (i : Nat) = q) (kk : sv_V Γ X k n (pc + 1) lv (.int x :: st)) : sv_V Γ X k n pc lv st := fun H locs ls hP hD hS hl => lv_iload_n hC.x hC.b d hi (lv_at hl j hj) (kk H locs ls hP hD hS hl)
theorem sv_iload (hC : sv_C Γ cc nL own ret R) {q : Nat} {x : Int32} (d : decode cc pc = .ok (.iload q, 2)) (j : Nat) (hj : lv[j]? = some (q, .int x)) (kk : sv_V Γ X k n (pc + 2) lv (.int x :: st)) : sv_V Γ X k n pc lv st := fun H locs ls hP hD hS hl => lv_iload hC.x hC.b d (lv_at hl j hj) (kk H locs ls hP hD hS hl)
theorem sv_lload_n (hC : sv_C Γ cc nL own ret R) {i : Fin 4} {q : Nat} {x : Int64} (d : decode cc pc = .ok (.lload_n i, 1)) (j : Nat) (hj : lv[j]? = some (q, .long x)) (hi : (i : Nat) = q) (kk : sv_V Γ X k n (pc + 1) lv (.long x :: st)) : sv_V Γ X k n pc lv st := fun H locs ls hP hD hS hl => lv_lload_n hC.x hC.b d hi (lv_at hl j hj) (kk H locs ls hP hD hS hl)
theorem sv_lload (hC : sv_C Γ cc nL own ret R) {q : Nat} {x : Int64} (d : decode cc pc = .ok (.lload q, 2)) (j : Nat) (hj : lv[j]? = some (q, .long x)) (kk : sv_V Γ X k n (pc + 2) lv (.long x :: st)) : sv_V Γ X k n pc lv st := fun H locs ls hP hD hS hl => lv_lload hC.x hC.b d (lv_at hl j hj) (kk H locs ls hP hD hS hl)
theorem sv_aload_n (hC : sv_C Γ cc nL own ret R) {i : Fin 4} {q : Nat} {x : Nat} (d : decode cc pc = .ok (.aload_n i, 1)) (j : Nat) (hj : lv[j]? = some (q, .ref x)) (hi : (i : Nat) = q) (kk : sv_V Γ X k n (pc + 1) lv (.ref x :: st)) : sv_V Γ X k n pc lv st := fun H locs ls hP hD hS hl => lv_aload_n hC.x hC.b d hi (lv_at hl j hj) (kk H locs ls hP hD hS hl)
theorem sv_aload (hC : sv_C Γ cc nL own ret R) {q : Nat} {x : Nat} (d : decode cc pc = .ok (.aload q, 2)) (j : Nat) (hj : lv[j]? = some (q, .ref x)) (kk : sv_V Γ X k n (pc + 2) lv (.ref x :: st)) : sv_V Γ X k n pc lv st := fun H locs ls hP hD hS hl => lv_aload hC.x hC.b d (lv_at hl j hj) (kk H locs ls hP hD hS hl)
theorem sv_aload_nN (hC : sv_C Γ cc nL own ret R) {i : Fin 4} {q : Nat} (d : decode cc pc = .ok (.aload_n i, 1)) (j : Nat) (hj : lv[j]? = some (q, .null)) (hi : (i : Nat) = q) (kk : sv_V Γ X k n (pc + 1) lv (.null :: st)) : sv_V Γ X k n pc lv st := fun H locs ls hP hD hS hl => lv_aload_nN hC.x hC.b d hi (lv_at hl j hj) (kk H locs ls hP hD hS hl)
theorem sv_istore_n (hC : sv_C Γ cc nL own ret R) {z : Fin 4} {i : Nat} {x : Int32} {lvq : List (Nat × Value)} (d : decode cc pc = .ok (.istore_n z, 1)) (hi : (z : Nat) = i) (hn : i < nL) (hl2 : (i, Value.int x) :: lv.filter (fun q => !(q.1 == i) && !(q.1 + 1 == i && q.2.category == 2)) = lvq) (kk : sv_V Γ X k n (pc + 1) lvq st) : sv_V Γ X k n pc lv (.int x :: st) := fun H locs ls hP hD hS hl => lv_istore_n hC.x hC.b d hi hl (by rw [hC.nl]; exact hn) hl2 (fun ls hl => kk H locs ls hP hD hS hl)
theorem sv_istore (hC : sv_C Γ cc nL own ret R) {i : Nat} {x : Int32} {lvq : List (Nat × Value)} (d : decode cc pc = .ok (.istore i, 2)) (hn : i < nL) (hl2 : (i, Value.int x) :: lv.filter (fun q => !(q.1 == i) && !(q.1 + 1 == i && q.2.category == 2)) = lvq) (kk : sv_V Γ X k n (pc + 2) lvq st) : sv_V Γ X k n pc lv (.int x :: st) := fun H locs ls hP hD hS hl => lv_istore hC.x hC.b d hl (by rw [hC.nl]; exact hn) hl2 (fun ls hl => kk H locs ls hP hD hS hl)
theorem sv_lstore_n (hC : sv_C Γ cc nL own ret R) {z : Fin 4} {i : Nat} {x : Int64} {lvq : List (Nat × Value)} (d : decode cc pc = .ok (.lstore_n z, 1)) (hi : (z : Nat) = i) (hn : i + 1 < nL) (hl2 : (i, Value.long x) :: lv.filter (fun q => !(q.1 == i) && (!(q.1 == i + 1) && !(q.1 + 1 == i && q.2.category == 2))) = lvq) (kk : sv_V Γ X k n (pc + 1) lvq st) : sv_V Γ X k n pc lv (.long x :: st) := fun H locs ls hP hD hS hl => lv_lstore_n hC.x hC.b d hi hl (by rw [hC.nl]; exact hn) hl2 (fun ls hl => kk H locs ls hP hD hS hl)
theorem sv_lstore (hC : sv_C Γ cc nL own ret R) {i : Nat} {x : Int64} {lvq : List (Nat × Value)} (d : decode cc pc = .ok (.lstore i, 2)) (hn : i + 1 < nL) (hl2 : (i, Value.long x) :: lv.filter (fun q => !(q.1 == i) && (!(q.1 == i + 1) && !(q.1 + 1 == i && q.2.category == 2))) = lvq) (kk : sv_V Γ X k n (pc + 2) lvq st) : sv_V Γ X k n pc lv (.long x :: st) := fun H locs ls hP hD hS hl => lv_lstore hC.x hC.b d hl (by rw [hC.nl]; exact hn) hl2 (fun ls hl => kk H locs ls hP hD hS hl)
theorem sv_astore_n (hC : sv_C Γ cc nL own ret R) {z : Fin 4} {i : Nat} {x : Nat} {lvq : List (Nat × Value)} (d : decode cc pc = .ok (.astore_n z, 1)) (hi : (z : Nat) = i) (hn : i < nL) (hl2 : (i, Value.ref x) :: lv.filter (fun q => !(q.1 == i) && !(q.1 + 1 == i && q.2.category == 2)) = lvq) (kk : sv_V Γ X k n (pc + 1) lvq st) : sv_V Γ X k n pc lv (.ref x :: st) := fun H locs ls hP hD hS hl => lv_astore_n hC.x hC.b d hi hl (by rw [hC.nl]; exact hn) hl2 (fun ls hl => kk H locs ls hP hD hS hl)
theorem sv_astore (hC : sv_C Γ cc nL own ret R) {i : Nat} {x : Nat} {lvq : List (Nat × Value)} (d : decode cc pc = .ok (.astore i, 2)) (hn : i < nL) (hl2 : (i, Value.ref x) :: lv.filter (fun q => !(q.1 == i) && !(q.1 + 1 == i && q.2.category == 2)) = lvq) (kk : sv_V Γ X k n (pc + 2) lvq st) : sv_V Γ X k n pc lv (.ref x :: st) := fun H locs ls hP hD hS hl => lv_astore hC.x hC.b d hl (by rw [hC.nl]; exact hn) hl2 (fun ls hl => kk H locs ls hP hD hS hl)
theorem sv_iinc (hC : sv_C Γ cc nL own ret R) {i : Nat} {z : Int} {x v : Int32} {lvq : List (Nat × Value)} (d : decode cc pc = .ok (.iinc i z, 3)) (j : Nat) (hj : lv[j]? = some (i, .int x)) (hv : x + Int32.ofInt z = v) (hn : i < nL) (hl2 : (i, Value.int v) :: lv.filter (fun q => !(q.1 == i) && !(q.1 + 1 == i && q.2.category == 2)) = lvq) (kk : sv_V Γ X k n (pc + 3) lvq st) : sv_V Γ X k n pc lv st := fun H locs ls hP hD hS hl => lv_iinc hC.x hC.b d hl hj hv (by rw [hC.nl]; exact hn) hl2 (fun ls hl => kk H locs ls hP hD hS hl)
theorem sv_loc (js : List Nat) {lvq : List (Nat × Value)} (hl2 : lv_pick lv js = lvq) (kk : sv_V Γ X k n pc lvq st) : sv_V Γ X k n pc lv st := fun H locs ls hP hD hS hl => kk H locs ls hP hD hS (lv_sub hl js hl2)
theorem sv_iadd (hC : sv_C Γ cc nL own ret R) {x y : Int32} (d : decode cc pc = .ok (.iadd, 1))  (kk : sv_V Γ X k n (pc + 1) lv (.int (x + y) :: st)) : sv_V Γ X k n pc lv (.int y :: .int x :: st) := fun H locs ls hP hD hS hl => lv_iadd hC.x hC.b d (kk H locs ls hP hD hS hl)
theorem sv_isub (hC : sv_C Γ cc nL own ret R) {x y : Int32} (d : decode cc pc = .ok (.isub, 1))  (kk : sv_V Γ X k n (pc + 1) lv (.int (x - y) :: st)) : sv_V Γ X k n pc lv (.int y :: .int x :: st) := fun H locs ls hP hD hS hl => lv_isub hC.x hC.b d (kk H locs ls hP hD hS hl)
theorem sv_imul (hC : sv_C Γ cc nL own ret R) {x y : Int32} (d : decode cc pc = .ok (.imul, 1))  (kk : sv_V Γ X k n (pc + 1) lv (.int (x * y) :: st)) : sv_V Γ X k n pc lv (.int y :: .int x :: st) := fun H locs ls hP hD hS hl => lv_imul hC.x hC.b d (kk H locs ls hP hD hS hl)
theorem sv_iand (hC : sv_C Γ cc nL own ret R) {x y : Int32} (d : decode cc pc = .ok (.iand, 1))  (kk : sv_V Γ X k n (pc + 1) lv (.int (x &&& y) :: st)) : sv_V Γ X k n pc lv (.int y :: .int x :: st) := fun H locs ls hP hD hS hl => lv_iand hC.x hC.b d (kk H locs ls hP hD hS hl)
theorem sv_ior (hC : sv_C Γ cc nL own ret R) {x y : Int32} (d : decode cc pc = .ok (.ior, 1))  (kk : sv_V Γ X k n (pc + 1) lv (.int (x ||| y) :: st)) : sv_V Γ X k n pc lv (.int y :: .int x :: st) := fun H locs ls hP hD hS hl => lv_ior hC.x hC.b d (kk H locs ls hP hD hS hl)
theorem sv_ixor (hC : sv_C Γ cc nL own ret R) {x y : Int32} (d : decode cc pc = .ok (.ixor, 1))  (kk : sv_V Γ X k n (pc + 1) lv (.int (x ^^^ y) :: st)) : sv_V Γ X k n pc lv (.int y :: .int x :: st) := fun H locs ls hP hD hS hl => lv_ixor hC.x hC.b d (kk H locs ls hP hD hS hl)
theorem sv_ishl (hC : sv_C Γ cc nL own ret R) {x y : Int32} (d : decode cc pc = .ok (.ishl, 1))  (kk : sv_V Γ X k n (pc + 1) lv (.int (x <<< (y &&& 31)) :: st)) : sv_V Γ X k n pc lv (.int y :: .int x :: st) := fun H locs ls hP hD hS hl => lv_ishl hC.x hC.b d (kk H locs ls hP hD hS hl)
theorem sv_ishr (hC : sv_C Γ cc nL own ret R) {x y : Int32} (d : decode cc pc = .ok (.ishr, 1))  (kk : sv_V Γ X k n (pc + 1) lv (.int (x >>> (y &&& 31)) :: st)) : sv_V Γ X k n pc lv (.int y :: .int x :: st) := fun H locs ls hP hD hS hl => lv_ishr hC.x hC.b d (kk H locs ls hP hD hS hl)
theorem sv_ladd (hC : sv_C Γ cc nL own ret R) {x y : Int64} (d : decode cc pc = .ok (.ladd, 1))  (kk : sv_V Γ X k n (pc + 1) lv (.long (x + y) :: st)) : sv_V Γ X k n pc lv (.long y :: .long x :: st) := fun H locs ls hP hD hS hl => lv_ladd hC.x hC.b d (kk H locs ls hP hD hS hl)
theorem sv_lsub (hC : sv_C Γ cc nL own ret R) {x y : Int64} (d : decode cc pc = .ok (.lsub, 1))  (kk : sv_V Γ X k n (pc + 1) lv (.long (x - y) :: st)) : sv_V Γ X k n pc lv (.long y :: .long x :: st) := fun H locs ls hP hD hS hl => lv_lsub hC.x hC.b d (kk H locs ls hP hD hS hl)
theorem sv_lmul (hC : sv_C Γ cc nL own ret R) {x y : Int64} (d : decode cc pc = .ok (.lmul, 1))  (kk : sv_V Γ X k n (pc + 1) lv (.long (x * y) :: st)) : sv_V Γ X k n pc lv (.long y :: .long x :: st) := fun H locs ls hP hD hS hl => lv_lmul hC.x hC.b d (kk H locs ls hP hD hS hl)
theorem sv_land (hC : sv_C Γ cc nL own ret R) {x y : Int64} (d : decode cc pc = .ok (.land, 1))  (kk : sv_V Γ X k n (pc + 1) lv (.long (x &&& y) :: st)) : sv_V Γ X k n pc lv (.long y :: .long x :: st) := fun H locs ls hP hD hS hl => lv_land hC.x hC.b d (kk H locs ls hP hD hS hl)
theorem sv_lor (hC : sv_C Γ cc nL own ret R) {x y : Int64} (d : decode cc pc = .ok (.lor, 1))  (kk : sv_V Γ X k n (pc + 1) lv (.long (x ||| y) :: st)) : sv_V Γ X k n pc lv (.long y :: .long x :: st) := fun H locs ls hP hD hS hl => lv_lor hC.x hC.b d (kk H locs ls hP hD hS hl)
theorem sv_lxor (hC : sv_C Γ cc nL own ret R) {x y : Int64} (d : decode cc pc = .ok (.lxor, 1))  (kk : sv_V Γ X k n (pc + 1) lv (.long (x ^^^ y) :: st)) : sv_V Γ X k n pc lv (.long y :: .long x :: st) := fun H locs ls hP hD hS hl => lv_lxor hC.x hC.b d (kk H locs ls hP hD hS hl)
theorem sv_idiv (hC : sv_C Γ cc nL own ret R) {x y : Int32} (d : decode cc pc = .ok (.idiv, 1)) (hne : ¬ y = 0) (kk : sv_V Γ X k n (pc + 1) lv (.int (x / y) :: st)) : sv_V Γ X k n pc lv (.int y :: .int x :: st) := fun H locs ls hP hD hS hl => lv_idiv hC.x hC.b d hne (kk H locs ls hP hD hS hl)
theorem sv_irem (hC : sv_C Γ cc nL own ret R) {x y : Int32} (d : decode cc pc = .ok (.irem, 1)) (hne : ¬ y = 0) (kk : sv_V Γ X k n (pc + 1) lv (.int (x - x / y * y) :: st)) : sv_V Γ X k n pc lv (.int y :: .int x :: st) := fun H locs ls hP hD hS hl => lv_irem hC.x hC.b d hne (kk H locs ls hP hD hS hl)
theorem sv_ldiv (hC : sv_C Γ cc nL own ret R) {x y : Int64} (d : decode cc pc = .ok (.ldiv, 1)) (hne : ¬ y = 0) (kk : sv_V Γ X k n (pc + 1) lv (.long (x / y) :: st)) : sv_V Γ X k n pc lv (.long y :: .long x :: st) := fun H locs ls hP hD hS hl => lv_ldiv hC.x hC.b d hne (kk H locs ls hP hD hS hl)
theorem sv_lrem (hC : sv_C Γ cc nL own ret R) {x y : Int64} (d : decode cc pc = .ok (.lrem, 1)) (hne : ¬ y = 0) (kk : sv_V Γ X k n (pc + 1) lv (.long (x - x / y * y) :: st)) : sv_V Γ X k n pc lv (.long y :: .long x :: st) := fun H locs ls hP hD hS hl => lv_lrem hC.x hC.b d hne (kk H locs ls hP hD hS hl)
theorem sv_ineg (hC : sv_C Γ cc nL own ret R) {x : Int32} (d : decode cc pc = .ok (.ineg, 1))  (kk : sv_V Γ X k n (pc + 1) lv (.int (-x) :: st)) : sv_V Γ X k n pc lv (.int x :: st) := fun H locs ls hP hD hS hl => lv_ineg hC.x hC.b d (kk H locs ls hP hD hS hl)
theorem sv_lneg (hC : sv_C Γ cc nL own ret R) {x : Int64} (d : decode cc pc = .ok (.lneg, 1))  (kk : sv_V Γ X k n (pc + 1) lv (.long (-x) :: st)) : sv_V Γ X k n pc lv (.long x :: st) := fun H locs ls hP hD hS hl => lv_lneg hC.x hC.b d (kk H locs ls hP hD hS hl)
theorem sv_lshl (hC : sv_C Γ cc nL own ret R) {x : Int64} {y : Int32} (d : decode cc pc = .ok (.lshl, 1))  (kk : sv_V Γ X k n (pc + 1) lv (.long (x <<< (y.toInt64 &&& 63)) :: st)) : sv_V Γ X k n pc lv (.int y :: .long x :: st) := fun H locs ls hP hD hS hl => lv_lshl hC.x hC.b d rfl (kk H locs ls hP hD hS hl)
theorem sv_lshr (hC : sv_C Γ cc nL own ret R) {x : Int64} {y : Int32} (d : decode cc pc = .ok (.lshr, 1))  (kk : sv_V Γ X k n (pc + 1) lv (.long (x >>> (y.toInt64 &&& 63)) :: st)) : sv_V Γ X k n pc lv (.int y :: .long x :: st) := fun H locs ls hP hD hS hl => lv_lshr hC.x hC.b d rfl (kk H locs ls hP hD hS hl)
theorem sv_lushr (hC : sv_C Γ cc nL own ret R) {x : Int64} {y : Int32} (d : decode cc pc = .ok (.lushr, 1))  (kk : sv_V Γ X k n (pc + 1) lv (.long ((x.toUInt64 >>> (y.toInt64.toUInt64 &&& Int64.toUInt64 63)).toInt64) :: st)) : sv_V Γ X k n pc lv (.int y :: .long x :: st) := fun H locs ls hP hD hS hl => lv_lushr hC.x hC.b d rfl (kk H locs ls hP hD hS hl)
theorem sv_iushr (hC : sv_C Γ cc nL own ret R) {x y : Int32} (d : decode cc pc = .ok (.iushr, 1))  (kk : sv_V Γ X k n (pc + 1) lv (.int ((x.toUInt32 >>> (y.toUInt32 &&& Int32.toUInt32 31)).toInt32) :: st)) : sv_V Γ X k n pc lv (.int y :: .int x :: st) := fun H locs ls hP hD hS hl => lv_iushr hC.x hC.b d rfl (kk H locs ls hP hD hS hl)
theorem sv_i2l (hC : sv_C Γ cc nL own ret R) {x : Int32} (d : decode cc pc = .ok (.i2l, 1))  (kk : sv_V Γ X k n (pc + 1) lv (.long x.toInt64 :: st)) : sv_V Γ X k n pc lv (.int x :: st) := fun H locs ls hP hD hS hl => lv_i2l hC.x hC.b d rfl (kk H locs ls hP hD hS hl)
theorem sv_l2i (hC : sv_C Γ cc nL own ret R) {x : Int64} (d : decode cc pc = .ok (.l2i, 1))  (kk : sv_V Γ X k n (pc + 1) lv (.int x.toInt32 :: st)) : sv_V Γ X k n pc lv (.long x :: st) := fun H locs ls hP hD hS hl => lv_l2i hC.x hC.b d rfl (kk H locs ls hP hD hS hl)
theorem sv_i2b (hC : sv_C Γ cc nL own ret R) {x : Int32} (d : decode cc pc = .ok (.i2b, 1))  (kk : sv_V Γ X k n (pc + 1) lv (.int x.toInt8.toInt32 :: st)) : sv_V Γ X k n pc lv (.int x :: st) := fun H locs ls hP hD hS hl => lv_i2b hC.x hC.b d rfl (kk H locs ls hP hD hS hl)
theorem sv_i2c (hC : sv_C Γ cc nL own ret R) {x : Int32} (d : decode cc pc = .ok (.i2c, 1))  (kk : sv_V Γ X k n (pc + 1) lv (.int (x.toUInt32 % 65536).toInt32 :: st)) : sv_V Γ X k n pc lv (.int x :: st) := fun H locs ls hP hD hS hl => lv_i2c hC.x hC.b d rfl (kk H locs ls hP hD hS hl)
theorem sv_lcmp (hC : sv_C Γ cc nL own ret R) {x y : Int64} (d : decode cc pc = .ok (.lcmp, 1)) (kk : sv_V Γ X k n (pc + 1) lv (.int (lg_cmp x y) :: st)) : sv_V Γ X k n pc lv (.long y :: .long x :: st) := fun H locs ls hP hD hS hl => W.lcmp hC.x hC.b d (kk H locs ls hP hD hS hl)
theorem sv_dup (hC : sv_C Γ cc nL own ret R) {va : Value} (d : decode cc pc = .ok (.dup, 1)) (ha : va.category = 1) (kk : sv_V Γ X k n (pc + 1) lv (va :: va :: st)) : sv_V Γ X k n pc lv (va :: st) := fun H locs ls hP hD hS hl => lv_dup hC.x hC.b d ha (kk H locs ls hP hD hS hl)
theorem sv_pop (hC : sv_C Γ cc nL own ret R) {va : Value} (d : decode cc pc = .ok (.pop, 1)) (ha : va.category = 1) (kk : sv_V Γ X k n (pc + 1) lv st) : sv_V Γ X k n pc lv (va :: st) := fun H locs ls hP hD hS hl => lv_pop hC.x hC.b d ha (kk H locs ls hP hD hS hl)
theorem sv_dup_x1 (hC : sv_C Γ cc nL own ret R) {va vb : Value} (d : decode cc pc = .ok (.dup_x1, 1)) (ha : va.category = 1) (hb : vb.category = 1) (kk : sv_V Γ X k n (pc + 1) lv (va :: vb :: va :: st)) : sv_V Γ X k n pc lv (va :: vb :: st) := fun H locs ls hP hD hS hl => lv_dup_x1 hC.x hC.b d ha hb (kk H locs ls hP hD hS hl)
theorem sv_dup_x2 (hC : sv_C Γ cc nL own ret R) {va vb vd : Value} (d : decode cc pc = .ok (.dup_x2, 1)) (ha : va.category = 1) (hb : vb.category = 1) (hd : vd.category = 1) (kk : sv_V Γ X k n (pc + 1) lv (va :: vb :: vd :: va :: st)) : sv_V Γ X k n pc lv (va :: vb :: vd :: st) := fun H locs ls hP hD hS hl => lv_dup_x2 hC.x hC.b d ha hb hd (kk H locs ls hP hD hS hl)
theorem sv_dup2_11 (hC : sv_C Γ cc nL own ret R) {va vb : Value} (d : decode cc pc = .ok (.dup2, 1)) (ha : va.category = 1) (hb : vb.category = 1) (kk : sv_V Γ X k n (pc + 1) lv (va :: vb :: va :: vb :: st)) : sv_V Γ X k n pc lv (va :: vb :: st) := fun H locs ls hP hD hS hl => lv_dup2_11 hC.x hC.b d ha hb (kk H locs ls hP hD hS hl)
theorem sv_if_eq (hC : sv_C Γ cc nL own ret R) {x : Int32} {off : Int} {tgt : Nat} (d : decode cc pc = .ok (.ifCond .eq off, 3)) (ht : (pc : Int) + off = (tgt : Int)) (kt : x = 0 → sv_V Γ X k n tgt lv st) (kf : ¬ x = 0 → sv_V Γ X k n (pc + 3) lv st) : sv_V Γ X k n pc lv (.int x :: st) := fun H locs ls hP hD hS hl => lv_if_eq hC.x hC.b d ht (fun z => kt z H locs ls hP hD hS hl) (fun z => kf z H locs ls hP hD hS hl)
theorem sv_if_ne (hC : sv_C Γ cc nL own ret R) {x : Int32} {off : Int} {tgt : Nat} (d : decode cc pc = .ok (.ifCond .ne off, 3)) (ht : (pc : Int) + off = (tgt : Int)) (kt : ¬ x = 0 → sv_V Γ X k n tgt lv st) (kf : x = 0 → sv_V Γ X k n (pc + 3) lv st) : sv_V Γ X k n pc lv (.int x :: st) := fun H locs ls hP hD hS hl => lv_if_ne hC.x hC.b d ht (fun z => kt z H locs ls hP hD hS hl) (fun z => kf z H locs ls hP hD hS hl)
theorem sv_if_lt (hC : sv_C Γ cc nL own ret R) {x : Int32} {off : Int} {tgt : Nat} (d : decode cc pc = .ok (.ifCond .lt off, 3)) (ht : (pc : Int) + off = (tgt : Int)) (kt : x < 0 → sv_V Γ X k n tgt lv st) (kf : ¬ x < 0 → sv_V Γ X k n (pc + 3) lv st) : sv_V Γ X k n pc lv (.int x :: st) := fun H locs ls hP hD hS hl => lv_if_lt hC.x hC.b d ht (fun z => kt z H locs ls hP hD hS hl) (fun z => kf z H locs ls hP hD hS hl)
theorem sv_if_ge (hC : sv_C Γ cc nL own ret R) {x : Int32} {off : Int} {tgt : Nat} (d : decode cc pc = .ok (.ifCond .ge off, 3)) (ht : (pc : Int) + off = (tgt : Int)) (kt : 0 ≤ x → sv_V Γ X k n tgt lv st) (kf : ¬ 0 ≤ x → sv_V Γ X k n (pc + 3) lv st) : sv_V Γ X k n pc lv (.int x :: st) := fun H locs ls hP hD hS hl => lv_if_ge hC.x hC.b d ht (fun z => kt z H locs ls hP hD hS hl) (fun z => kf z H locs ls hP hD hS hl)
theorem sv_if_gt (hC : sv_C Γ cc nL own ret R) {x : Int32} {off : Int} {tgt : Nat} (d : decode cc pc = .ok (.ifCond .gt off, 3)) (ht : (pc : Int) + off = (tgt : Int)) (kt : 0 < x → sv_V Γ X k n tgt lv st) (kf : ¬ 0 < x → sv_V Γ X k n (pc + 3) lv st) : sv_V Γ X k n pc lv (.int x :: st) := fun H locs ls hP hD hS hl => lv_if_gt hC.x hC.b d ht (fun z => kt z H locs ls hP hD hS hl) (fun z => kf z H locs ls hP hD hS hl)
theorem sv_if_le (hC : sv_C Γ cc nL own ret R) {x : Int32} {off : Int} {tgt : Nat} (d : decode cc pc = .ok (.ifCond .le off, 3)) (ht : (pc : Int) + off = (tgt : Int)) (kt : x ≤ 0 → sv_V Γ X k n tgt lv st) (kf : ¬ x ≤ 0 → sv_V Γ X k n (pc + 3) lv st) : sv_V Γ X k n pc lv (.int x :: st) := fun H locs ls hP hD hS hl => lv_if_le hC.x hC.b d ht (fun z => kt z H locs ls hP hD hS hl) (fun z => kf z H locs ls hP hD hS hl)
theorem sv_icmp_eq (hC : sv_C Γ cc nL own ret R) {x y : Int32} {off : Int} {tgt : Nat} (d : decode cc pc = .ok (.if_icmp .eq off, 3)) (ht : (pc : Int) + off = (tgt : Int)) (kt : x = y → sv_V Γ X k n tgt lv st) (kf : ¬ x = y → sv_V Γ X k n (pc + 3) lv st) : sv_V Γ X k n pc lv (.int y :: .int x :: st) := fun H locs ls hP hD hS hl => lv_icmp_eq hC.x hC.b d ht (fun z => kt z H locs ls hP hD hS hl) (fun z => kf z H locs ls hP hD hS hl)
theorem sv_icmp_ne (hC : sv_C Γ cc nL own ret R) {x y : Int32} {off : Int} {tgt : Nat} (d : decode cc pc = .ok (.if_icmp .ne off, 3)) (ht : (pc : Int) + off = (tgt : Int)) (kt : ¬ x = y → sv_V Γ X k n tgt lv st) (kf : x = y → sv_V Γ X k n (pc + 3) lv st) : sv_V Γ X k n pc lv (.int y :: .int x :: st) := fun H locs ls hP hD hS hl => lv_icmp_ne hC.x hC.b d ht (fun z => kt z H locs ls hP hD hS hl) (fun z => kf z H locs ls hP hD hS hl)
theorem sv_icmp_lt (hC : sv_C Γ cc nL own ret R) {x y : Int32} {off : Int} {tgt : Nat} (d : decode cc pc = .ok (.if_icmp .lt off, 3)) (ht : (pc : Int) + off = (tgt : Int)) (kt : x < y → sv_V Γ X k n tgt lv st) (kf : ¬ x < y → sv_V Γ X k n (pc + 3) lv st) : sv_V Γ X k n pc lv (.int y :: .int x :: st) := fun H locs ls hP hD hS hl => lv_icmp_lt hC.x hC.b d ht (fun z => kt z H locs ls hP hD hS hl) (fun z => kf z H locs ls hP hD hS hl)
theorem sv_icmp_ge (hC : sv_C Γ cc nL own ret R) {x y : Int32} {off : Int} {tgt : Nat} (d : decode cc pc = .ok (.if_icmp .ge off, 3)) (ht : (pc : Int) + off = (tgt : Int)) (kt : y ≤ x → sv_V Γ X k n tgt lv st) (kf : ¬ y ≤ x → sv_V Γ X k n (pc + 3) lv st) : sv_V Γ X k n pc lv (.int y :: .int x :: st) := fun H locs ls hP hD hS hl => lv_icmp_ge hC.x hC.b d ht (fun z => kt z H locs ls hP hD hS hl) (fun z => kf z H locs ls hP hD hS hl)
theorem sv_icmp_gt (hC : sv_C Γ cc nL own ret R) {x y : Int32} {off : Int} {tgt : Nat} (d : decode cc pc = .ok (.if_icmp .gt off, 3)) (ht : (pc : Int) + off = (tgt : Int)) (kt : y < x → sv_V Γ X k n tgt lv st) (kf : ¬ y < x → sv_V Γ X k n (pc + 3) lv st) : sv_V Γ X k n pc lv (.int y :: .int x :: st) := fun H locs ls hP hD hS hl => lv_icmp_gt hC.x hC.b d ht (fun z => kt z H locs ls hP hD hS hl) (fun z => kf z H locs ls hP hD hS hl)
theorem sv_icmp_le (hC : sv_C Γ cc nL own ret R) {x y : Int32} {off : Int} {tgt : Nat} (d : decode cc pc = .ok (.if_icmp .le off, 3)) (ht : (pc : Int) + off = (tgt : Int)) (kt : x ≤ y → sv_V Γ X k n tgt lv st) (kf : ¬ x ≤ y → sv_V Γ X k n (pc + 3) lv st) : sv_V Γ X k n pc lv (.int y :: .int x :: st) := fun H locs ls hP hD hS hl => lv_icmp_le hC.x hC.b d ht (fun z => kt z H locs ls hP hD hS hl) (fun z => kf z H locs ls hP hD hS hl)
theorem sv_goto (hC : sv_C Γ cc nL own ret R) {off : Int} {tgt : Nat} (d : decode cc pc = .ok (.goto off, 3)) (ht : (pc : Int) + off = (tgt : Int)) (kk : sv_V Γ X k n tgt lv st) : sv_V Γ X k n pc lv st := fun H locs ls hP hD hS hl => lv_goto hC.x hC.b d ht (kk H locs ls hP hD hS hl)
theorem sv_ifnull (hC : sv_C Γ cc nL own ret R) {x : Nat} {off : Int} (d : decode cc pc = .ok (.ifnull off, 3)) (kk : sv_V Γ X k n (pc + 3) lv st) : sv_V Γ X k n pc lv (.ref x :: st) := fun H locs ls hP hD hS hl => lv_ifnull hC.x hC.b d (kk H locs ls hP hD hS hl)
theorem sv_ifnullN (hC : sv_C Γ cc nL own ret R) {off : Int} {tgt : Nat} (d : decode cc pc = .ok (.ifnull off, 3)) (ht : (pc : Int) + off = (tgt : Int)) (kk : sv_V Γ X k n tgt lv st) : sv_V Γ X k n pc lv (.null :: st) := fun H locs ls hP hD hS hl => lv_ifnullN hC.x hC.b d ht (kk H locs ls hP hD hS hl)
theorem sv_ifnonnull (hC : sv_C Γ cc nL own ret R) {x : Nat} {off : Int} {tgt : Nat} (d : decode cc pc = .ok (.ifnonnull off, 3)) (ht : (pc : Int) + off = (tgt : Int)) (kk : sv_V Γ X k n tgt lv st) : sv_V Γ X k n pc lv (.ref x :: st) := fun H locs ls hP hD hS hl => lv_ifnonnull hC.x hC.b d ht (kk H locs ls hP hD hS hl)
theorem sv_ifnonnullN (hC : sv_C Γ cc nL own ret R) {off : Int} (d : decode cc pc = .ok (.ifnonnull off, 3)) (kk : sv_V Γ X k n (pc + 3) lv st) : sv_V Γ X k n pc lv (.null :: st) := fun H locs ls hP hD hS hl => lv_ifnonnullN hC.x hC.b d (kk H locs ls hP hD hS hl)
theorem sv_ldc (hC : sv_C Γ cc nL own ret R) {index : Nat} {v : Int32} (d : decode cc pc = .ok (.ldc index, 2)) (hq : Jvm.Cond.constant own index v ∈ lw_all) (kk : sv_V Γ X k n (pc + 2) lv (.int v :: st)) : sv_V Γ X k n pc lv st := fun H locs ls hP hD hS hl => lv_ldc hC.x hC.b hC.ow (hC.ts _ hq) d (kk H locs ls hP hD hS hl)
theorem sv_ldcw (hC : sv_C Γ cc nL own ret R) {index : Nat} {v : Int32} (d : decode cc pc = .ok (.ldc_w index, 3)) (hq : Jvm.Cond.constant own index v ∈ lw_all) (kk : sv_V Γ X k n (pc + 3) lv (.int v :: st)) : sv_V Γ X k n pc lv st := fun H locs ls hP hD hS hl => lv_ldcw hC.x hC.b hC.ow (hC.ts _ hq) d (kk H locs ls hP hD hS hl)
theorem sv_ldc2 (hC : sv_C Γ cc nL own ret R) {index : Nat} {v : Int64} (d : decode cc pc = .ok (.ldc2_w index, 3)) (hq : Jvm.Cond.constantLong own index v ∈ lw_all) (kk : sv_V Γ X k n (pc + 3) lv (.long v :: st)) : sv_V Γ X k n pc lv st := fun H locs ls hP hD hS hl => lv_ldc2 hC.x hC.b hC.ow (hC.ts _ hq) d (kk H locs ls hP hD hS hl)
theorem sv_tabIn (hC : sv_C Γ cc nL own ret R) {dflt lo hi : Int} {offs : Array Int} {len : Nat} {x : Int32} {off : Int} {tgt : Nat} (d : decode cc pc = .ok (.tableswitch dflt lo hi offs, len)) (v : Int32) (hx : x = v) (h1 : ¬ v.toInt < lo) (h2 : ¬ hi < v.toInt) (ho : offs[(v.toInt - lo).toNat]? = some off) (ht : (pc : Int) + off = (tgt : Int)) (kk : sv_V Γ X k n tgt lv st) : sv_V Γ X k n pc lv (.int x :: st) := fun H locs ls hP hD hS hl => by subst hx; exact lv_tableIn hC.x hC.b d h1 h2 ho ht (kk H locs ls hP hD hS hl)
theorem sv_tabOut (hC : sv_C Γ cc nL own ret R) {dflt lo hi : Int} {offs : Array Int} {len : Nat} {x : Int32} {tgt : Nat} (d : decode cc pc = .ok (.tableswitch dflt lo hi offs, len)) (h : x.toInt < lo ∨ hi < x.toInt) (ht : (pc : Int) + dflt = (tgt : Int)) (kk : sv_V Γ X k n tgt lv st) : sv_V Γ X k n pc lv (.int x :: st) := fun H locs ls hP hD hS hl => lv_tableOut hC.x hC.b d h ht (kk H locs ls hP hD hS hl)
theorem sv_swOut {x : Int32} {N : Nat} (hN : N < 1000) (h : ∀ j : Nat, j ≤ N → ¬ x = Int32.ofNat j) : x.toInt < 0 ∨ (N : Int) < x.toInt := by
  rcases Int.lt_or_le x.toInt 0 with h1 | h1
  · exact Or.inl h1
  · rcases Int.lt_or_le (N : Int) x.toInt with h2 | h2
    · exact Or.inr h2
    · exfalso
      refine h x.toInt.toNat (by omega) ?_
      have h3 : Int32.ofNat x.toInt.toNat = Int32.ofInt x.toInt := by
        rw [← Int32.ofInt_eq_ofNat]
        congr 1
        omega
      rw [h3, Int32.ofInt_toInt]
theorem sv_get (hC : sv_C Γ cc nL own ret R) {ref C : String} {T : u_T} {N ci index a : Nat} (hin : ∀ w ∈ u_ws C T N, w ∈ lw_all) (q0 : Nat) {fs : List Value} (he : X[q0]? = some (a, .inr (ci, fs))) (hc : sv_cl[ci]? = some (C, T, N)) (f : Nat) (hk : f < N) (hq : Cond.fieldLink own index ref (T f).2.1 (T f).2.2.1 ∈ lw_all) (hr : ref = (T f).1) {v : Value} (hv : fs[f]? = some v) (d : decode cc pc = .ok (.getfield index, 3))
    (kk : sv_V Γ X k n (pc + 3) lv (v :: st)) : sv_V Γ X k n pc lv (.ref a :: st) := fun H locs ls hP hD hS hl => va_get hC.x hC.b hC.ts hin hC.ow hC.K hP q0 he hc f hk (hC.ts _ hq) (fun x h => by rw [hr]; exact h) hv d (kk H locs ls hP hD hS hl)
theorem sv_put (hC : sv_C Γ cc nL own ret R) {ref C : String} {T : u_T} {N ci index a : Nat} (hin : ∀ w ∈ u_ws C T N, w ∈ lw_all) (ty0 : Nat → FieldType) (hty : ∀ k, k < N → parseFieldDescriptor (T k).2.2.1 = some (ty0 k)) (hnm : ∀ a, a < N → ∀ b, b < N → a ≠ b → (T a).2.1 ≠ (T b).2.1) (q0 : Nat) {fs : List Value} (he : X[q0]? = some (a, .inr (ci, fs))) (hc : sv_cl[ci]? = some (C, T, N)) (f : Nat) (hk : f < N) (hq : Cond.fieldLink own index ref (T f).2.1 (T f).2.2.1 ∈ lw_all) (hr : ref = (T f).1) (hfin : (T f).2.2.2 = false) {v : Value} (hn : narrow (ty0 f) v = v) (hfit : fits (ty0 f) v = true) (hl0 : f < fs.length) {Xq : va_W} (hX : X.set q0 (a, .inr (ci, fs.set f v)) = Xq) (d : decode cc pc = .ok (.putfield index, 3))
    (kk : sv_V Γ Xq k n (pc + 3) lv st) : sv_V Γ X k n pc lv (v :: .ref a :: st) := fun H locs ls hP hD hS hl => va_put hC.x hC.b hC.ts hin ty0 hty hnm hC.ow hC.K hP hD hS q0 he hc f hk (hC.ts _ hq) (fun x h => by rw [hr]; exact h) hfin (hty f hk) hn hfit hl0 d (fun H1 locs1 hP1 hD1 hS1 => kk H1 locs1 ls (hX ▸ hP1) (hX ▸ hD1) hS1 hl)
theorem sv_putF (hC : sv_C Γ cc nL own ret R) {ref C : String} {T : u_T} {N ci index a : Nat} (hmn : (sg_meth Γ).name = "<init>") (hin : ∀ w ∈ u_ws C T N, w ∈ lw_all) (ty0 : Nat → FieldType) (hty : ∀ k, k < N → parseFieldDescriptor (T k).2.2.1 = some (ty0 k)) (hnm : ∀ a, a < N → ∀ b, b < N → a ≠ b → (T a).2.1 ≠ (T b).2.1) (q0 : Nat) {fs : List Value} (he : X[q0]? = some (a, .inr (ci, fs))) (hc : sv_cl[ci]? = some (C, T, N)) (f : Nat) (hk : f < N) (hq : Cond.fieldLink own index ref (T f).2.1 (T f).2.2.1 ∈ lw_all) (hr : ref = (T f).1) (hdc : (T f).1 = own) (hfin : (T f).2.2.2 = true) {v : Value} (hn : narrow (ty0 f) v = v) (hfit : fits (ty0 f) v = true) (hl0 : f < fs.length) {Xq : va_W} (hX : X.set q0 (a, .inr (ci, fs.set f v)) = Xq) (d : decode cc pc = .ok (.putfield index, 3))
    (kk : sv_V Γ Xq k n (pc + 3) lv st) : sv_V Γ X k n pc lv (v :: .ref a :: st) := fun H locs ls hP hD hS hl => va_putF hC.x hC.b hC.ts hin ty0 hty hnm hC.ow hC.K hP hD hS q0 he hc f hk (hC.ts _ hq) (fun x h => by rw [hr]; exact h) hfin hmn hdc (hty f hk) hn hfit hl0 d (fun H1 locs1 hP1 hD1 hS1 => kk H1 locs1 ls (hX ▸ hP1) (hX ▸ hD1) hS1 hl)
theorem sv_iald (hC : sv_C Γ cc nL own ret R) (q0 : Nat) {a : Nat} {cA : ClassId} {nn : Nat} {f : Nat → Int32} (ha : X[q0]? = some (a, .inl (cA, nn, .inl f))) (ht : (sv_ty (sg_dA Γ))[0]? = some (cA, .int)) {i : Int32} {j : Nat} (hj : sv_ix i nn = some j) (d : decode cc pc = .ok (.iaload, 1)) (kk : sv_V Γ X k n (pc + 1) lv (.int (f j) :: st)) : sv_V Γ X k n pc lv (.int i :: .ref a :: st) := fun H locs ls hP hD hS hl => va_iald hC.x hC.b hC.K hP q0 0 ha ht (sv_ix_in hj).1 d (by rw [(sv_ix_in hj).2]; exact kk H locs ls hP hD hS hl)
theorem sv_bald (hC : sv_C Γ cc nL own ret R) (q0 : Nat) {a : Nat} {cA : ClassId} {nn : Nat} {f : Nat → Int32} (ha : X[q0]? = some (a, .inl (cA, nn, .inl f))) (ht : (sv_ty (sg_dA Γ))[1]? = some (cA, .byte)) {i : Int32} {j : Nat} (hj : sv_ix i nn = some j) (d : decode cc pc = .ok (.baload, 1)) (kk : sv_V Γ X k n (pc + 1) lv (.int (f j) :: st)) : sv_V Γ X k n pc lv (.int i :: .ref a :: st) := fun H locs ls hP hD hS hl => va_bald hC.x hC.b hC.K hP q0 1 ha ht (sv_ix_in hj).1 d (by rw [(sv_ix_in hj).2]; exact kk H locs ls hP hD hS hl)
theorem sv_zald (hC : sv_C Γ cc nL own ret R) (q0 : Nat) {a : Nat} {cA : ClassId} {nn : Nat} {f : Nat → Int32} (ha : X[q0]? = some (a, .inl (cA, nn, .inl f))) (ht : (sv_ty (sg_dA Γ))[2]? = some (cA, .boolean)) {i : Int32} {j : Nat} (hj : sv_ix i nn = some j) (d : decode cc pc = .ok (.baload, 1)) (kk : sv_V Γ X k n (pc + 1) lv (.int (f j) :: st)) : sv_V Γ X k n pc lv (.int i :: .ref a :: st) := fun H locs ls hP hD hS hl => va_zald hC.x hC.b hC.K hP q0 2 ha ht (sv_ix_in hj).1 d (by rw [(sv_ix_in hj).2]; exact kk H locs ls hP hD hS hl)
theorem sv_iast (hC : sv_C Γ cc nL own ret R) (q0 : Nat) {a : Nat} {cA : ClassId} {nn : Nat} {f : Nat → Int32} (ha : X[q0]? = some (a, .inl (cA, nn, .inl f))) (ht : (sv_ty (sg_dA Γ))[0]? = some (cA, .int)) {i x : Int32} {j : Nat} (hj : sv_ix i nn = some j) {Xq : va_W} (hX : X.set q0 (a, .inl (cA, nn, .inl (upd f j x))) = Xq) (d : decode cc pc = .ok (.iastore, 1)) (kk : sv_V Γ Xq k n (pc + 1) lv st) : sv_V Γ X k n pc lv (.int x :: .int i :: .ref a :: st) := fun H locs ls hP hD hS hl => va_iast hC.x hC.b hC.K hP hD hS q0 0 ha ht (sv_ix_in hj).1 d (by rw [(sv_ix_in hj).2, hX]; exact fun H1 locs1 hP1 hD1 hS1 => kk H1 locs1 ls hP1 hD1 hS1 hl)
theorem sv_bast (hC : sv_C Γ cc nL own ret R) (q0 : Nat) {a : Nat} {cA : ClassId} {nn : Nat} {f : Nat → Int32} (ha : X[q0]? = some (a, .inl (cA, nn, .inl f))) (ht : (sv_ty (sg_dA Γ))[1]? = some (cA, .byte)) {i x : Int32} {j : Nat} (hj : sv_ix i nn = some j) {Xq : va_W} (hX : X.set q0 (a, .inl (cA, nn, .inl (upd f j (vp_nar .byte x)))) = Xq) (d : decode cc pc = .ok (.bastore, 1)) (kk : sv_V Γ Xq k n (pc + 1) lv st) : sv_V Γ X k n pc lv (.int x :: .int i :: .ref a :: st) := fun H locs ls hP hD hS hl => va_bast hC.x hC.b hC.K hP hD hS q0 1 ha ht (sv_ix_in hj).1 d (by rw [(sv_ix_in hj).2, hX]; exact fun H1 locs1 hP1 hD1 hS1 => kk H1 locs1 ls hP1 hD1 hS1 hl)
theorem sv_zast (hC : sv_C Γ cc nL own ret R) (q0 : Nat) {a : Nat} {cA : ClassId} {nn : Nat} {f : Nat → Int32} (ha : X[q0]? = some (a, .inl (cA, nn, .inl f))) (ht : (sv_ty (sg_dA Γ))[2]? = some (cA, .boolean)) {i x : Int32} {j : Nat} (hj : sv_ix i nn = some j) {Xq : va_W} (hX : X.set q0 (a, .inl (cA, nn, .inl (upd f j (vp_nar .boolean x)))) = Xq) (d : decode cc pc = .ok (.bastore, 1)) (kk : sv_V Γ Xq k n (pc + 1) lv st) : sv_V Γ X k n pc lv (.int x :: .int i :: .ref a :: st) := fun H locs ls hP hD hS hl => va_zast hC.x hC.b hC.K hP hD hS q0 2 ha ht (sv_ix_in hj).1 d (by rw [(sv_ix_in hj).2, hX]; exact fun H1 locs1 hP1 hD1 hS1 => kk H1 locs1 ls hP1 hD1 hS1 hl)
theorem sv_alen (hC : sv_C Γ cc nL own ret R) (q0 t0 : Nat) {a : Nat} {cA : ClassId} {x : vp_A} (ha : X[q0]? = some (a, .inl (cA, x))) {ty : FieldType} (ht : (sv_ty (sg_dA Γ))[t0]? = some (cA, ty)) {v : Int32} (hv : Int32.ofNat x.1 = v) (d : decode cc pc = .ok (.arraylength, 1)) (kk : sv_V Γ X k n (pc + 1) lv (.int v :: st)) : sv_V Γ X k n pc lv (.ref a :: st) := fun H locs ls hP hD hS hl => va_alen hC.x hC.b hC.K hP q0 t0 ha ht hv d (kk H locs ls hP hD hS hl)
theorem sv_aldq (hC : sv_C Γ cc nL own ret R) (q0 t0 : Nat) {a : Nat} {cA : ClassId} {C : String} {nn : Nat} {f : Nat → Option Nat} (ha : X[q0]? = some (a, .inl (cA, nn, .inr (.inr (.inr (.inr f)))))) (ht : (sv_ty (sg_dA Γ))[t0]? = some (cA, .object C)) {i : Int32} {j : Nat} (hj : sv_ix i nn = some j) (d : decode cc pc = .ok (.aaload, 1)) (kk : sv_V Γ X k n (pc + 1) lv (va_rf (f j) :: st)) : sv_V Γ X k n pc lv (.int i :: .ref a :: st) := fun H locs ls hP hD hS hl => va_aldq hC.x hC.b hC.K hP q0 t0 ha ht (sv_ix_in hj).1 d (by rw [(sv_ix_in hj).2]; exact kk H locs ls hP hD hS hl)
theorem sv_world (is : List Nat) (hn : va_nd is = true) {Xq : va_W} (hX : is.map (fun i => X[i]?) = Xq.map some) (kk : sv_V Γ Xq k n pc lv st) : sv_V Γ X k n pc lv st := fun H locs ls hP hD hS hl => kk H locs ls (fun j q hj => by
    have h1 : (is.map (fun i => X[i]?))[j]? = some (some q) := by rw [hX, List.getElem?_map, hj]; rfl
    rw [List.getElem?_map] at h1
    cases hi : is[j]? with
    | none => rw [hi] at h1; cases h1
    | some i => rw [hi] at h1; exact hP i q (Option.some.inj h1)) (hD.sub is hn hX) hS hl
theorem sv_widen {k2 n2 : Nat} (h1 : k ≤ k2) (h2 : n ≤ n2) (kk : sv_V Γ X k2 n2 pc lv st) : sv_V Γ X k n pc lv st := fun H locs ls hP hD hS hl => W.widen h1 h2 (kk H locs ls hP hD hS hl)
theorem sv_pc {pc2 : Nat} (h : pc2 = pc) (kk : sv_V Γ X k n pc2 lv st) : sv_V Γ X k n pc lv st := h ▸ kk
/-- a contract's end: the answer and the world behind it are as post says -/
def sv_Qc (post : Option Value → va_W → Prop) (D : va_G) (A : Nat → Prop) : Array Value → State → Outcome → State → Prop := fun _ st oc t => (∃ (v : Option Value) (X' : va_W), post v X' ∧ oc = .returned v ∧ va_P D sv_cl X' t.heap ∧ va_D A X') ∧ va_F A st t
/-- A CONTRACT: called with the args vs on any heap that holds the world X, y ends as post says -/
def sv_M (l : Launch) (s0 : State) (D : va_G) (y : MethodName) (bb : ByteArray) (L : Nat) (ret : Option FieldType) (rm : Room) (vs : List Value) (X : va_W) (post : Option Value → va_W → Prop) : Prop :=
  ∀ sz : Nat, Met l y (ws_ y bb L ret) rm (va_Pc vs (fun U => U.heap.size = sz ∧ sv_E s0 U ∧ va_P D sv_cl X U.heap ∧ va_D (fun q => s0.heap.size ≤ q) X)) (sv_Qc post D (va_A X sz)) rm.cells rm.slots (va_A X sz)
def sv_pI (r : Int32) (X' : va_W) : Option Value → va_W → Prop := fun v W => v = some (.int r) ∧ W = X'
def sv_pL (r : Int64) (X' : va_W) : Option Value → va_W → Prop := fun v W => v = some (.long r) ∧ W = X'
def sv_pV (X' : va_W) : Option Value → va_W → Prop := fun v W => v = none ∧ W = X'
def sv_pA (r : Nat) (X' : va_W) : Option Value → va_W → Prop := fun v W => v = some (.ref r) ∧ W = X'
/-- the end that a method's walk must reach -/
def sv_RQ (Γ : sv_G) (post : Option Value → va_W → Prop) (mc ms : Nat) : Prop := sg_Q Γ = MQ (sg_below Γ) (sv_Qc post (sg_D Γ) (sg_A Γ)) (sg_args Γ) (sg_s Γ) mc ms (sg_A Γ)
theorem sv_iret (hC : sv_C Γ cc nL own (some .int) R) {post : Option Value → va_W → Prop} (hQ : sv_RQ Γ post k n) {v : Int32} (d : decode cc pc = .ok (.ireturn, 1)) (hp : post (some (.int v)) X) : sv_V Γ X k n pc lv [.int v] := fun H locs ls hP hD hS hl => by
  unfold sv_RQ at hQ
  rw [hQ]
  exact W.iret hC.x hC.b hC.rt (fun t ht hW => ⟨⟨_, X, hp, rfl, by rw [ht]; exact hP, hD⟩, hS.F ht⟩) hS.2.2 d (hlocks := hC.lk)
theorem sv_zret {rt : FieldType} (hC : sv_C Γ cc nL own (some rt) R) {post : Option Value → va_W → Prop} (hQ : sv_RQ Γ post k n) {v : Int32} (d : decode cc pc = .ok (.ireturn, 1)) (hn : narrow rt (.int v) = .int v) (hp : post (some (.int v)) X) : sv_V Γ X k n pc lv [.int v] := fun H locs ls hP hD hS hl => by
  unfold sv_RQ at hQ
  rw [hQ]
  exact W.zret hC.x hC.b hC.rt hn (fun t ht hW => ⟨⟨_, X, hp, rfl, by rw [ht]; exact hP, hD⟩, hS.F ht⟩) hS.2.2 d (hlocks := hC.lk)
theorem sv_lret (hC : sv_C Γ cc nL own (some .long) R) {post : Option Value → va_W → Prop} (hQ : sv_RQ Γ post k n) {v : Int64} (d : decode cc pc = .ok (.lreturn, 1)) (hp : post (some (.long v)) X) : sv_V Γ X k n pc lv [.long v] := fun H locs ls hP hD hS hl => by
  unfold sv_RQ at hQ
  rw [hQ]
  exact W.lret hC.x hC.b hC.rt (fun t ht hW => ⟨⟨_, X, hp, rfl, by rw [ht]; exact hP, hD⟩, hS.F ht⟩) hS.2.2 d (hlocks := hC.lk)
theorem sv_vret (hC : sv_C Γ cc nL own none R) {post : Option Value → va_W → Prop} (hQ : sv_RQ Γ post k n) (d : decode cc pc = .ok (.return_, 1)) (hp : post none X) : sv_V Γ X k n pc lv [] := fun H locs ls hP hD hS hl => by
  unfold sv_RQ at hQ
  rw [hQ]
  exact W.vret hC.x hC.b hC.rt (fun t ht hW => ⟨⟨_, X, hp, rfl, by rw [ht]; exact hP, hD⟩, hS.F ht⟩) hS.2.2 d (hlocks := hC.lk)
theorem sv_aret {rt : FieldType} (hC : sv_C Γ cc nL own (some rt) R) {post : Option Value → va_W → Prop} (hQ : sv_RQ Γ post k n) {v : Value} (d : decode cc pc = .ok (.areturn, 1)) (hrt : (∃ n, rt = .object n) ∨ ∃ t, rt = .array t) (hv : v = .null ∨ ∃ a, v = .ref a) (hp : post (some v) X) : sv_V Γ X k n pc lv [v] := fun H locs ls hP hD hS hl => by
  unfold sv_RQ at hQ
  rw [hQ]
  exact W.aret hC.x hC.b hC.rt hrt hv (fun t ht hW => ⟨⟨_, X, hp, rfl, by rw [ht]; exact hP, hD⟩, hS.F ht⟩) hS.2.2 d (hlocks := hC.lk)
/-- what came of a call: the callee's world is new, the rest of the caller's world is unchanged -/
theorem sv_after {mc ms : Nat} {st0 rest : List Value} {post : Option Value → va_W → Prop} {Xc Xr : va_W} {a : Array Value} (isC isR : List Nat) (hXc : isC.map (fun i => X[i]?) = Xc.map some) (hXr : isR.map (fun i => X[i]?) = Xr.map some) (hnR : va_nd isR = true) (hdis : ∀ i ∈ isR, i ∉ isC) (hA : ∀ q : Nat, (sg_s Γ).heap.size ≤ q → sg_A Γ q)
    {H : Heap} {locs : List Loc} {ls : Array Slot} (hP : va_P (sg_D Γ) sv_cl X H) (hD : va_D (sg_A Γ) X) (hS : va_S (sg_A Γ) (sg_s Γ).heap H locs) (hl : lv_has ls (sg_nL Γ) lv)
    (hr : va_Run (sg_p Γ) (sg_l Γ) (sg_e Γ) (sg_R Γ) (sg_s Γ) (sg_m Γ) (sg_args Γ) (sg_below Γ) (sg_meth Γ) (sg_c Γ) H locs k n mc ms (F0 (sg_m Γ) pc ls st0) rest (sv_Qc post (sg_D Γ) (va_A Xc H.size) a) (va_A Xc H.size))
    (kk : ∀ (v : Option Value) (X' : va_W), post v X' → sv_V Γ (Xr ++ X') (k + mc) (n + ms) (pc + 3) lv (v.toList ++ rest)) :
    W (sg_p Γ) (sg_l Γ) (sg_e Γ) (sg_R Γ) (sg_s Γ) (sg_m Γ) (sg_args Γ) (sg_below Γ) (sg_meth Γ) (sg_c Γ) H locs k n (sg_Q Γ) (F0 (sg_m Γ) pc ls st0) := by
  intro T hT Y
  obtain ⟨v, st₀, t, T', L, h0, Y', hL, e1, e2, ⟨⟨v', X', hp, hv, hP1, hD1⟩, hz, hk⟩, st⟩ := hr T hT Y
  cases hv
  rw [h0] at hz hk
  have hF := va_free hD hS hA isC hXc
  have hS1 : va_S (sg_A Γ) (sg_s Γ).heap T'.heap (locs ++ L) := ⟨Nat.le_trans hS.1 (by rw [e1]; exact hz), fun q h1 h2 => by rw [e1, hk q (Nat.lt_of_lt_of_le h1 hS.1) (fun z => h2 (hF q z))]; exact hS.2.1 q h1 h2, fun q hq => by
    rcases List.mem_append.mp hq with h | h
    · exact hS.2.2 q h
    · exact hF _ (hL q h)⟩
  obtain ⟨hP2, hD2⟩ := va_join hP hD isC isR hXc hXr hnR hdis hk hF hP1 hD1
  obtain ⟨t2, a1, b1⟩ := kk v X' hp T'.heap (locs ++ L) ls (by rw [e1]; exact hP2) hD2 hS1 hl T' rfl Y'
  exact ⟨t2, st t2 a1, b1⟩
/-- the callee's start holds -/
theorem sv_pre {Xc : va_W} {vs : List Value} (hC : sv_C Γ cc nL own ret R) (isC : List Nat) (hXc : isC.map (fun i => X[i]?) = Xc.map some) (hnC : va_nd isC = true) {H : Heap} {locs : List Loc} (hP : va_P (sg_D Γ) sv_cl X H) (hD : va_D (sg_A Γ) X) (hS : va_S (sg_A Γ) (sg_s Γ).heap H locs) (U : State) (hU : U.heap = H) (hW : (sg_s Γ).WarmedH U.vm) :
    va_Pc vs (fun U => U.heap.size = H.size ∧ sv_E (sg_s0 Γ) U ∧ va_P (sg_D Γ) sv_cl Xc U.heap ∧ va_D (fun q => (sg_s0 Γ).heap.size ≤ q) Xc) vs.toArray U :=
  ⟨rfl, by rw [hU], hC.Eh hS hU hW, by
    rw [hU]
    intro j q hj
    have h1 : (isC.map (fun i => X[i]?))[j]? = some (some q) := by rw [hXc, List.getElem?_map, hj]; rfl
    rw [List.getElem?_map] at h1
    cases hi : isC[j]? with
    | none => rw [hi] at h1; cases h1
    | some i => rw [hi] at h1; exact hP i q (Option.some.inj h1), (hD.sub isC hnC hXc).weaken (fun _ q _ h => hC.lo q.1 h)⟩
theorem sv_blind {s0 : State} {D : va_G} {vs : List Value} {sz : Nat} {Xc : va_W} : FrameBlind (va_Pc vs (fun U => U.heap.size = sz ∧ sv_E s0 U ∧ va_P D sv_cl Xc U.heap ∧ va_D (fun q => s0.heap.size ≤ q) Xc)) := fun a U g mk q => by
  obtain ⟨q0, q1, q2, q3, q4⟩ := q
  exact ⟨q0, q1, q2.calling g mk a, q3, q4⟩
/-- a virtual call, the callee's world at isC, the rest at isR; the receiver stands at q0 and is of class ci -/
theorem sv_callV (hC : sv_C Γ cc nL own ret R) {index nn : Nat} {y : MethodName} {bb : ByteArray} {L : Nat} {rt : Option FieldType} {rm : Room} {C : String} {b : Nat} {As rest : List Value} {post : Option Value → va_W → Prop} {Xc Xr : va_W} (isC isR : List Nat) (hXc : isC.map (fun i => X[i]?) = Xc.map some) (hXr : isR.map (fun i => X[i]?) = Xr.map some) (hnC : va_nd isC = true) (hnR : va_nd isR = true) (hdis : ∀ i ∈ isR, i ∉ isC)
    (hM : sv_M (sg_l Γ) (sg_s0 Γ) (sg_D Γ) y bb L rt rm (.ref b :: As) Xc post) (q0 ci : Nat) {fs : List Value} {q : vw_C} (he : X[q0]? = some (b, .inr (ci, fs))) (hc : sv_cl[ci]? = some q) (hqC : q.1 = C) (hG : GoodIn lw_all (wsV own index C y (ws_ y bb L rt)))
    (hd : y.cls = C ∧ y.cls ≠ "java/lang/invoke/MethodHandle" ∧ y.cls ≠ "java/lang/invoke/VarHandle" ∧ (parseMethodDescriptor y.desc).map (fun d => d.parameters.length) = some nn) (hR : rm.frames + 1 ≤ R.frames ∧ 8 + (L + 11) + rm.locals ≤ R.locals) (hn : As.length = nn) {st0 : List Value} (hst : st0 = As.reverse ++ .ref b :: rest) (hW : (rest.map fun v => v.category).sum ≤ 8) (hf : k + rm.cells ≤ R.cells ∧ n + rm.slots ≤ R.slots) (d : decode cc pc = .ok (.invokevirtual index, 3))
    (kk : ∀ (v : Option Value) (X' : va_W), post v X' → sv_V Γ (Xr ++ X') (k + rm.cells) (n + rm.slots) (pc + 3) lv (v.toList ++ rest)) : sv_V Γ X k n pc lv st0 := fun H locs ls hP hD hS hl => by
  subst hst
  subst hqC
  refine sv_after isC isR hXc hXr hnR hdis hC.hA hP hD hS hl (va_runV (C := q.1) (b := b) (As := As) ⟨hC.x, hC.b, hC.ml, hC.ow, hC.ts⟩ (hM H.size) (by rw [hC.Rm]; exact cwV nn hC.ts hG rfl rfl rfl hd hR) ⟨sv_blind, va_recv hC.K hP hc he, sv_pre hC isC hXc hnC hP hD hS⟩ rfl hn (by rw [← hC.nl]; exact hl.1) rfl (lv_room hW) d (by rw [hC.Rm]; exact hf)) kk
theorem sv_callS (hC : sv_C Γ cc nL own ret R) {index nn : Nat} {y : MethodName} {bb : ByteArray} {L : Nat} {rt : Option FieldType} {rm : Room} {As rest : List Value} {post : Option Value → va_W → Prop} {Xc Xr : va_W} (isC isR : List Nat) (hXc : isC.map (fun i => X[i]?) = Xc.map some) (hXr : isR.map (fun i => X[i]?) = Xr.map some) (hnC : va_nd isC = true) (hnR : va_nd isR = true) (hdis : ∀ i ∈ isR, i ∉ isC)
    (hM : sv_M (sg_l Γ) (sg_s0 Γ) (sg_D Γ) y bb L rt rm As Xc post) (hG : GoodIn lw_all (va_wsS own index y (ws_ y bb L rt)))
    (hd : y.cls ≠ "java/lang/invoke/MethodHandle" ∧ y.cls ≠ "java/lang/invoke/VarHandle" ∧ (parseMethodDescriptor y.desc).map (fun d => d.parameters.length) = some nn) (hR : rm.frames + 1 ≤ R.frames ∧ 8 + (L + 11) + rm.locals ≤ R.locals) (hn : As.length = nn) {st0 : List Value} (hst : st0 = As.reverse ++ rest) (hW : (rest.map fun v => v.category).sum ≤ 8) (hf : k + rm.cells ≤ R.cells ∧ n + rm.slots ≤ R.slots) (d : decode cc pc = .ok (.invokestatic index, 3))
    (kk : ∀ (v : Option Value) (X' : va_W), post v X' → sv_V Γ (Xr ++ X') (k + rm.cells) (n + rm.slots) (pc + 3) lv (v.toList ++ rest)) : sv_V Γ X k n pc lv st0 := fun H locs ls hP hD hS hl => by
  subst hst
  refine sv_after isC isR hXc hXr hnR hdis hC.hA hP hD hS hl (va_runS (As := As) ⟨hC.x, hC.b, hC.ml, hC.ow, hC.ts⟩ (hM H.size) (by rw [hC.Rm]; exact va_cwS nn hC.ts hG rfl rfl rfl hd hR) ⟨sv_blind, sv_pre hC isC hXc hnC hP hD hS⟩ rfl hn (by rw [← hC.nl]; exact hl.1) rfl (lv_room hW) d (by rw [hC.Rm]; exact hf)) kk
theorem sv_callI (hC : sv_C Γ cc nL own ret R) {index nn : Nat} {y : MethodName} {bb : ByteArray} {L : Nat} {rm : Room} {b : Nat} {As rest : List Value} {post : Option Value → va_W → Prop} {Xc Xr : va_W} (isC isR : List Nat) (hXc : isC.map (fun i => X[i]?) = Xc.map some) (hXr : isR.map (fun i => X[i]?) = Xr.map some) (hnC : va_nd isC = true) (hnR : va_nd isR = true) (hdis : ∀ i ∈ isR, i ∉ isC)
    (hM : sv_M (sg_l Γ) (sg_s0 Γ) (sg_D Γ) y bb L none rm (.ref b :: As) Xc post) (hG : GoodIn lw_all (ws_ y bb L none)) (hini : Cond.initialized y.cls ∈ lw_all) (hlk : Cond.methodLink own index y ∈ lw_all) (him : Cond.instanceMethod y ∈ lw_all) (hy : y.name = "<init>")
    (hd : y.cls ≠ "java/lang/invoke/MethodHandle" ∧ y.cls ≠ "java/lang/invoke/VarHandle" ∧ (parseMethodDescriptor y.desc).map (fun d => d.parameters.length) = some nn) (hR : rm.frames + 1 ≤ R.frames ∧ 8 + (L + 11) + rm.locals ≤ R.locals) (hn : As.length = nn) {st0 : List Value} (hst : st0 = As.reverse ++ .ref b :: rest) (hW : (rest.map fun v => v.category).sum ≤ 8) (hf : k + rm.cells ≤ R.cells ∧ n + rm.slots ≤ R.slots) (d : decode cc pc = .ok (.invokespecial index, 3))
    (kk : ∀ (v : Option Value) (X' : va_W), post v X' → sv_V Γ (Xr ++ X') (k + rm.cells) (n + rm.slots) (pc + 3) lv (v.toList ++ rest)) : sv_V Γ X k n pc lv st0 := fun H locs ls hP hD hS hl => by
  subst hst
  refine sv_after isC isR hXc hXr hnR hdis hC.hA hP hD hS hl (va_runI (b := b) (As := As) ⟨hC.x, hC.b, hC.ml, hC.ow, hC.ts⟩ (hM H.size) (by rw [hC.Rm]; exact cwI nn hC.ts hG rfl rfl rfl (hC.ts _ hini) (hC.ts _ hlk) (hC.ts _ him) hy hd hR) ⟨sv_blind, sv_pre hC isC hXc hnC hP hD hS⟩ rfl hn (by rw [← hC.nl]; exact hl.1) rfl (lv_room hW) d (by rw [hC.Rm]; exact hf)) kk
/-- the whole world goes to the callee -/
theorem sv_all (X : va_W) : (List.range X.length).map (fun i => X[i]?) = X.map some := by
  apply List.ext_getElem?
  intro i
  rw [List.getElem?_map, List.getElem?_map]
  by_cases h : i < X.length
  · rw [List.getElem?_range h]; show some (X[i]?) = Option.map some (X[i]?); rw [List.getElem?_eq_getElem h]; rfl
  · rw [List.getElem?_eq_none (by simpa using h), List.getElem?_eq_none (by omega)]; rfl
theorem sv_ndR (l : List Nat) (h : l.Nodup) : va_nd l = true := by
  induction l with
  | nil => rfl
  | cons a l ih =>
    rw [List.nodup_cons] at h
    simp only [va_nd, Bool.and_eq_true, decide_eq_true_eq]
    exact ⟨h.1, ih h.2⟩
theorem sv_nd (N : Nat) : va_nd (List.range N) = true := sv_ndR _ List.nodup_range
theorem sv_wV (hC : sv_C Γ cc nL own ret R) {index nn : Nat} {y : MethodName} {bb : ByteArray} {L : Nat} {rt : Option FieldType} {rm : Room} {C : String} {b : Nat} {As rest : List Value} {post : Option Value → va_W → Prop}
    (hM : sv_M (sg_l Γ) (sg_s0 Γ) (sg_D Γ) y bb L rt rm (.ref b :: As) X post) (q0 ci : Nat) {fs : List Value} {q : vw_C} (he : X[q0]? = some (b, .inr (ci, fs))) (hc : sv_cl[ci]? = some q) (hqC : q.1 = C) (hG : GoodIn lw_all (wsV own index C y (ws_ y bb L rt)))
    (hd : y.cls = C ∧ y.cls ≠ "java/lang/invoke/MethodHandle" ∧ y.cls ≠ "java/lang/invoke/VarHandle" ∧ (parseMethodDescriptor y.desc).map (fun d => d.parameters.length) = some nn) (hR : rm.frames + 1 ≤ R.frames ∧ 8 + (L + 11) + rm.locals ≤ R.locals) (hn : As.length = nn) {st0 : List Value} (hst : st0 = As.reverse ++ .ref b :: rest) (hW : (rest.map fun v => v.category).sum ≤ 8) (hf : k + rm.cells ≤ R.cells ∧ n + rm.slots ≤ R.slots) (d : decode cc pc = .ok (.invokevirtual index, 3))
    (kk : ∀ (v : Option Value) (X' : va_W), post v X' → sv_V Γ X' (k + rm.cells) (n + rm.slots) (pc + 3) lv (v.toList ++ rest)) : sv_V Γ X k n pc lv st0 :=
  sv_callV (Xr := []) hC (List.range X.length) [] (sv_all X) rfl (sv_nd _) rfl (fun i h => by cases h) hM q0 ci he hc hqC hG hd hR hn hst hW hf d kk
theorem sv_wS (hC : sv_C Γ cc nL own ret R) {index nn : Nat} {y : MethodName} {bb : ByteArray} {L : Nat} {rt : Option FieldType} {rm : Room} {As rest : List Value} {post : Option Value → va_W → Prop}
    (hM : sv_M (sg_l Γ) (sg_s0 Γ) (sg_D Γ) y bb L rt rm As X post) (hG : GoodIn lw_all (va_wsS own index y (ws_ y bb L rt)))
    (hd : y.cls ≠ "java/lang/invoke/MethodHandle" ∧ y.cls ≠ "java/lang/invoke/VarHandle" ∧ (parseMethodDescriptor y.desc).map (fun d => d.parameters.length) = some nn) (hR : rm.frames + 1 ≤ R.frames ∧ 8 + (L + 11) + rm.locals ≤ R.locals) (hn : As.length = nn) {st0 : List Value} (hst : st0 = As.reverse ++ rest) (hW : (rest.map fun v => v.category).sum ≤ 8) (hf : k + rm.cells ≤ R.cells ∧ n + rm.slots ≤ R.slots) (d : decode cc pc = .ok (.invokestatic index, 3))
    (kk : ∀ (v : Option Value) (X' : va_W), post v X' → sv_V Γ X' (k + rm.cells) (n + rm.slots) (pc + 3) lv (v.toList ++ rest)) : sv_V Γ X k n pc lv st0 :=
  sv_callS (Xr := []) hC (List.range X.length) [] (sv_all X) rfl (sv_nd _) rfl (fun i h => by cases h) hM hG hd hR hn hst hW hf d kk
/-- a static call that needs nothing of the world -/
theorem sv_pS (hC : sv_C Γ cc nL own ret R) {index nn : Nat} {y : MethodName} {bb : ByteArray} {L : Nat} {rt : Option FieldType} {rm : Room} {As rest : List Value} {v0 : Value}
    (hM : sv_M (sg_l Γ) (sg_s0 Γ) (sg_D Γ) y bb L rt rm As [] (fun v W => v = some v0 ∧ W = [])) (hG : GoodIn lw_all (va_wsS own index y (ws_ y bb L rt)))
    (hd : y.cls ≠ "java/lang/invoke/MethodHandle" ∧ y.cls ≠ "java/lang/invoke/VarHandle" ∧ (parseMethodDescriptor y.desc).map (fun d => d.parameters.length) = some nn) (hR : rm.frames + 1 ≤ R.frames ∧ 8 + (L + 11) + rm.locals ≤ R.locals) (hn : As.length = nn) {st0 : List Value} (hst : st0 = As.reverse ++ rest) (hW : (rest.map fun v => v.category).sum ≤ 8) (hf : k + rm.cells ≤ R.cells ∧ n + rm.slots ≤ R.slots) (d : decode cc pc = .ok (.invokestatic index, 3))
    (kk : sv_V Γ X (k + rm.cells) (n + rm.slots) (pc + 3) lv (v0 :: rest)) : sv_V Γ X k n pc lv st0 :=
  sv_callS (Xc := []) hC [] (List.range X.length) rfl (sv_all X) rfl (sv_nd _) (fun i _ h => by cases h) hM hG hd hR hn hst hW hf d (fun v X' hp => by
    obtain ⟨rfl, rfl⟩ := hp
    rw [List.append_nil]
    exact kk)
def sv_FU : Nat := 2000
theorem sv_wVi (hC : sv_C Γ cc nL own ret R) {index nn : Nat} {y : MethodName} {bb : ByteArray} {L : Nat} {rt : Option FieldType} {rm : Room} {C : String} {b : Nat} {As rest : List Value} {r : Int32} {X' : va_W}
    (hM : sv_M (sg_l Γ) (sg_s0 Γ) (sg_D Γ) y bb L rt rm (.ref b :: As) X (sv_pI r X')) (q0 ci : Nat) {fs : List Value} {q : vw_C} (he : X[q0]? = some (b, .inr (ci, fs))) (hc : sv_cl[ci]? = some q) (hqC : q.1 = C) (hG : GoodIn lw_all (wsV own index C y (ws_ y bb L rt)))
    (hd : y.cls = C ∧ y.cls ≠ "java/lang/invoke/MethodHandle" ∧ y.cls ≠ "java/lang/invoke/VarHandle" ∧ (parseMethodDescriptor y.desc).map (fun d => d.parameters.length) = some nn) (hR : rm.frames + 1 ≤ R.frames ∧ 8 + (L + 11) + rm.locals ≤ R.locals) (hz : rm.cells = 0 ∧ rm.slots = 0) (hn : As.length = nn) {st0 : List Value} (hst : st0 = As.reverse ++ .ref b :: rest) (hW : (rest.map fun v => v.category).sum ≤ 8) (hf : k ≤ R.cells ∧ n ≤ R.slots) (d : decode cc pc = .ok (.invokevirtual index, 3))
    (kk : sv_V Γ X' k n (pc + 3) lv (.int r :: rest)) : sv_V Γ X k n pc lv st0 :=
  sv_wV hC hM q0 ci he hc hqC hG hd hR hn hst hW (by rw [hz.1, hz.2]; exact hf) d (fun v W hp => by
    obtain ⟨rfl, rfl⟩ := hp
    rw [hz.1, hz.2]
    exact kk)
theorem sv_wVv (hC : sv_C Γ cc nL own ret R) {index nn : Nat} {y : MethodName} {bb : ByteArray} {L : Nat} {rt : Option FieldType} {rm : Room} {C : String} {b : Nat} {As rest : List Value} {X' : va_W}
    (hM : sv_M (sg_l Γ) (sg_s0 Γ) (sg_D Γ) y bb L rt rm (.ref b :: As) X (sv_pV X')) (q0 ci : Nat) {fs : List Value} {q : vw_C} (he : X[q0]? = some (b, .inr (ci, fs))) (hc : sv_cl[ci]? = some q) (hqC : q.1 = C) (hG : GoodIn lw_all (wsV own index C y (ws_ y bb L rt)))
    (hd : y.cls = C ∧ y.cls ≠ "java/lang/invoke/MethodHandle" ∧ y.cls ≠ "java/lang/invoke/VarHandle" ∧ (parseMethodDescriptor y.desc).map (fun d => d.parameters.length) = some nn) (hR : rm.frames + 1 ≤ R.frames ∧ 8 + (L + 11) + rm.locals ≤ R.locals) (hz : rm.cells = 0 ∧ rm.slots = 0) (hn : As.length = nn) {st0 : List Value} (hst : st0 = As.reverse ++ .ref b :: rest) (hW : (rest.map fun v => v.category).sum ≤ 8) (hf : k ≤ R.cells ∧ n ≤ R.slots) (d : decode cc pc = .ok (.invokevirtual index, 3))
    (kk : sv_V Γ X' k n (pc + 3) lv rest) : sv_V Γ X k n pc lv st0 :=
  sv_wV hC hM q0 ci he hc hqC hG hd hR hn hst hW (by rw [hz.1, hz.2]; exact hf) d (fun v W hp => by
    obtain ⟨rfl, rfl⟩ := hp
    rw [hz.1, hz.2]
    exact kk)
theorem sv_pSi (hC : sv_C Γ cc nL own ret R) {index nn : Nat} {y : MethodName} {bb : ByteArray} {L : Nat} {rt : Option FieldType} {rm : Room} {As rest : List Value} {r : Int32}
    (hM : sv_M (sg_l Γ) (sg_s0 Γ) (sg_D Γ) y bb L rt rm As [] (sv_pI r [])) (hG : GoodIn lw_all (va_wsS own index y (ws_ y bb L rt)))
    (hd : y.cls ≠ "java/lang/invoke/MethodHandle" ∧ y.cls ≠ "java/lang/invoke/VarHandle" ∧ (parseMethodDescriptor y.desc).map (fun d => d.parameters.length) = some nn) (hR : rm.frames + 1 ≤ R.frames ∧ 8 + (L + 11) + rm.locals ≤ R.locals) (hz : rm.cells = 0 ∧ rm.slots = 0) (hn : As.length = nn) {st0 : List Value} (hst : st0 = As.reverse ++ rest) (hW : (rest.map fun v => v.category).sum ≤ 8) (hf : k ≤ R.cells ∧ n ≤ R.slots) (d : decode cc pc = .ok (.invokestatic index, 3))
    (kk : sv_V Γ X k n (pc + 3) lv (.int r :: rest)) : sv_V Γ X k n pc lv st0 :=
  sv_pS hC hM hG hd hR hn hst hW (by rw [hz.1, hz.2]; exact hf) d (by rw [hz.1, hz.2]; exact kk)
theorem sv_pSl (hC : sv_C Γ cc nL own ret R) {index nn : Nat} {y : MethodName} {bb : ByteArray} {L : Nat} {rt : Option FieldType} {rm : Room} {As rest : List Value} {r : Int64}
    (hM : sv_M (sg_l Γ) (sg_s0 Γ) (sg_D Γ) y bb L rt rm As [] (sv_pL r [])) (hG : GoodIn lw_all (va_wsS own index y (ws_ y bb L rt)))
    (hd : y.cls ≠ "java/lang/invoke/MethodHandle" ∧ y.cls ≠ "java/lang/invoke/VarHandle" ∧ (parseMethodDescriptor y.desc).map (fun d => d.parameters.length) = some nn) (hR : rm.frames + 1 ≤ R.frames ∧ 8 + (L + 11) + rm.locals ≤ R.locals) (hz : rm.cells = 0 ∧ rm.slots = 0) (hn : As.length = nn) {st0 : List Value} (hst : st0 = As.reverse ++ rest) (hW : (rest.map fun v => v.category).sum ≤ 8) (hf : k ≤ R.cells ∧ n ≤ R.slots) (d : decode cc pc = .ok (.invokestatic index, 3))
    (kk : sv_V Γ X k n (pc + 3) lv (.long r :: rest)) : sv_V Γ X k n pc lv st0 :=
  sv_pS hC hM hG hd hR hn hst hW (by rw [hz.1, hz.2]; exact hf) d (by rw [hz.1, hz.2]; exact kk)
end SV
/-- A METHOD's CONTRACT out of its walk -/
theorem sv_met {l : Launch} {s0 : State} {D : va_G} {dA : Nat → ClassId} (hF : sv_F s0 D dA) {y : MethodName} {bb : ByteArray} {L : Nat} {ret : Option FieldType} {rm : Room} {vs : List Value} {X : va_W} {post : Option Value → va_W → Prop} (hy : plainName y.cls = true) (hL : (lg_sl vs).length ≤ L)
    (body : ∀ Γ : sv_G, sv_C Γ bb L y.cls ret rm → sv_RQ Γ post rm.cells rm.slots → (sg_meth Γ).name = y.name → sg_l Γ = l → sg_s0 Γ = s0 → sg_D Γ = D → sg_dA Γ = dA → sv_V Γ X 0 0 0 (lv_args 0 vs) []) : sv_M l s0 D y bb L ret rm vs X post := by
  intro sz
  refine Met.ofW (cc := bb) (maxL := L) (ret := ret) hy rfl ?_
  intro p e s m args below meth c s₁ B hml hv
  obtain ⟨rfl, hsz, hE, hP, hD0⟩ := hv
  have hx := B.exec
  have hb := B.bytes
  have hr := B.returns
  have hts := atoms_spec (ws := ws_ y bb L ret) B.pre
  have hts : ∀ w ∈ lw_all, w.before _ s = true := fun w h => hts w (List.mem_cons_of_mem _ h)
  have hown : s.vm.findClass y.cls = some m.cls := findClass_of_methodNamed B.named
  have hlocks := B.notSynchronized
  have hin : meth.name = y.name := (name_of_methodNamed B.named B.method).1
  subst hsz
  have hD := hD0.self (sz := s.heap.size)
  have hA : ∀ q : Nat, s.heap.size ≤ q → va_A X s.heap.size q := fun q h => Or.inr h
  have hlo : ∀ q : Nat, va_A X s.heap.size q → s0.heap.size ≤ q := fun q h => by
    rcases h with ⟨k, e, h⟩ | h
    · exact hD0.2 k _ h
    · exact Nat.le_trans hE.2.1 h
  have hl := lv_entry vs (n := L) hL
  rw [lg_entry_eq]
  exact body (p, l, e, rm, s, m, vs.toArray, below, meth, c, L, D, va_A X s.heap.size, MQ below (sv_Qc post D (va_A X s.heap.size)) vs.toArray s rm.cells rm.slots (va_A X s.heap.size), s0, dA) ⟨hx, hb, hml, hown, hts, va_K.moved hE.1.alike hF.1, hA, hr, hlocks, rfl, rfl, hF, hE, hlo, trivial⟩ rfl hin rfl rfl rfl rfl s.heap [] _ hP hD va_S.rf hl
