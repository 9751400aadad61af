section
section
variable {f0 f1 f2 f3 f4 f5 : Int32} {a1 a2 a3 a4 a5 a6 a7 a8 a9 a10 a11 : Nat → Int32}
/-- adding four leaves the two low bits -/
theorem wl_and4 (x : Int32) : (x + 4) &&& 3 = x &&& 3 := by
  rw [pk_and (x + 4) 2 (by decide), pk_and x 2 (by decide)]
  have h : (x + 4).toBitVec.toNat = (x.toBitVec.toNat + 4) % 2 ^ 32 := by
    rw [Int32.toBitVec_add, BitVec.toNat_add]
    rfl
  rw [h]
  congr 1
  omega
theorem wl_c0 : (0 : Int32).toNatClampNeg = 0 := by decide
theorem wl_z (i : Nat) : (0 : Int32) + nI i = nI i := by
  rw [← nI_0, nI_add, Nat.zero_add]
theorem wl_i0 (i : Nat) : (5 : Int32) * 0 + nI i = nI i := by
  have h : (5 : Int32) * 0 = nI 0 := by decide
  rw [h, nI_add, Nat.zero_add]
theorem wl_i5 (i : Nat) : (5 : Int32) * 1 + nI i = nI (5 + i) := by
  have h : (5 : Int32) * 1 = nI 5 := by decide
  rw [h, nI_add]
/-- the child of the root by the letter q -/
theorem wl_child {post : Int32 → Prop} {q : Nat} (hq : q < 4) (h1 : a1 0 = 0) (H1 : a2 (q + 1) = 0 → post (nI (q + 1))) (H2 : ¬ a2 (q + 1) = 0 → post (-1)) :
    wpX_childOf post (f0, f1, f2, f3, f4, f5, a1, a2, a3, a4, a5, a6, a7, a8, a9, a10, a11) 0 (nI q) := by
  unfold wpX_childOf
  dsimp only
  rw [wl_c0, h1]
  refine ⟨pk_in 0 512 (by omega), nm_r (e' := nI (q + 1)) (by rw [wl_z, nI_1]) (br_f (nI_nle (by omega) (by omega)) ⟨pk_in (q + 1) 512 (by omega), ?_⟩)⟩
  rw [nI_clamp (by omega)]
  exact br_c H1 H2
/-- nothing spelled: the root -/
theorem wl_find0 {post : Int32 → Prop} (H : post 0) : wpX_find post (f0, 0, f2, f3, f4, f5, a1, a2, a3, a4, a5, a6, a7, a8, a9, a10, a11) :=
  Exists.intro 1 (br_t (by decide) H)
/-- one letter spelled that has no state -/
theorem wl_find1 {post : Int32 → Prop} {q : Nat} (hq : q < 4) (h1 : a1 0 = 0) (h6 : a6 0 = nI q) (h2 : ¬ a2 (q + 1) = 0) (H : post (-1)) : wpX_find post (f0, 1, f2, f3, f4, f5, a1, a2, a3, a4, a5, a6, a7, a8, a9, a10, a11) := by
  refine Exists.intro 2 (br_f (by decide) (br_f (by decide) ⟨pk_in 0 5 (by omega), ?_⟩))
  rw [wl_c0, h6]
  exact wl_child hq h1 (fun z => absurd z h2) (fun _ => nm_r (e' := 1) (by decide) (br_t (by decide) H))
theorem wl_learn0 {post : Int32 → St2 → Prop} {x y : Int32} (H : post (-1) (f0, 0, f2, f3, f4, f5, a1, a2, a3, a4, a5, a6, a7, a8, a9, a10, a11)) : wpX_learn post (f0, 0, f2, f3, f4, f5, a1, a2, a3, a4, a5, a6, a7, a8, a9, a10, a11) x y :=
  br_t rfl H
theorem wl_bad {post : Int32 → St2 → Prop} {x y : Int32} (hb : x < 0 ∨ 99 < x ∨ y < 0 ∨ 2 < y) (H : post (-1) (f0, 1, f2, f3, f4, f5, a1, a2, a3, a4, a5, a6, a7, a8, a9, a10, a11)) : wpX_learn post (f0, 1, f2, f3, f4, f5, a1, a2, a3, a4, a5, a6, a7, a8, a9, a10, a11) x y := by
  refine br_f (by decide) (br_c (fun _ => H) (fun n1 => br_c (fun _ => H) (fun n2 => br_c (fun _ => H) (fun n3 => br_f (fun n4 => ?_) H))))
  rcases hb with h | h | h | h
  · exact n1 h
  · exact n2 h
  · exact n3 h
  · exact Int32.not_le.mpr h n4
/-- a first child of the root -/
theorem wl_add {post : Int32 → St2 → Prop} {q : Nat} (hq : q < 4) (h1 : a1 0 = 0) (h2 : a2 (q + 1) = -1)
    (H : post (nI (q + 1)) (f0, f1, f2, f3, f4, f5, (upd a1 (q + 1) 0), (upd a2 (q + 1) 0), (upd a3 (q + 1) (-1)), a4, (upd a5 (q + 1) 0), a6, a7, a8, a9, a10, a11)) : wpX_addChild post (f0, f1, f2, f3, f4, f5, a1, a2, a3, a4, a5, a6, a7, a8, a9, a10, a11) 0 (nI q) := by
  unfold wpX_addChild
  dsimp only
  rw [wl_c0, h1]
  refine ⟨pk_in 0 512 (by omega), nm_r (e' := nI (q + 1)) (by rw [wl_z, nI_1]) ⟨pk_in (q + 1) 512 (by omega), ?_⟩⟩
  have hc : (nI (q + 1)).toNatClampNeg = q + 1 := nI_clamp (by omega)
  refine br_f (by rw [hc, h2]; decide) (br_f (nI_ne0 (by omega) (by omega)) ?_)
  unfold wX_addChild_41
  rw [hc]
  exact ⟨pk_in (q + 1) 512 (by omega), nm_e ⟨pk_in (q + 1) 512 (by omega), nm_e ⟨pk_in (q + 1) 512 (by omega), nm_e ⟨pk_in (q + 1) 512 (by omega), nm_e H⟩⟩⟩⟩
theorem wl_grow {post : Int32 → St2 → Prop} {q : Nat} (hq : q < 4) (h1 : a1 0 = 0) (h2 : a2 (q + 1) = -1) (h6 : a6 0 = nI q)
    (H : ∀ b5 : Nat → Int32, b5 0 = a5 0 + 1 → post (nI (q + 1)) (f0, 1, f2, f3, f4, f5, (upd a1 (q + 1) 0), (upd a2 (q + 1) 0), (upd a3 (q + 1) (-1)), a4, b5, a6, a7, a8, a9, a10, a11)) : wpX_grow post (f0, 1, f2, f3, f4, f5, a1, a2, a3, a4, a5, a6, a7, a8, a9, a10, a11) := by
  refine nm_e (Exists.intro 2 (br_f (by decide) ⟨pk_in 0 5 (by omega), ?_⟩))
  rw [wl_c0, h6]
  refine wl_child hq h1 (fun z => absurd z (by rw [h2]; decide)) (fun _ => br_f (by decide) ⟨pk_in 0 5 (by omega), wl_add hq h1 h2 ?_⟩)
  dsimp only
  unfold wX_grow_50
  refine ⟨pk_in (q + 1) 512 (by omega), pk_in (q + 1) 512 (by omega), nm_e (nm_r (e' := 1) (by decide) (br_t (by decide) (H _ ?_)))⟩
  rw [nI_clamp (by omega), pk_un (by omega), pk_un (by omega), pk_us]
/-- one letter spelled, a first word learnt -/
theorem wl_learn1 {post : Int32 → St2 → Prop} {q : Nat} {x y : Int32} (hq : q < 4) (h1 : a1 0 = 0) (h2 : a2 (q + 1) = -1) (h5 : a5 0 = 0) (h6 : a6 0 = nI q)
    (hx0 : ¬ x < 0) (hx : ¬ 99 < x) (hy0 : ¬ y < 0) (hy : y ≤ 2)
    (H : ∀ b1 b2 b3 b4 b5 : Nat → Int32, b1 0 = 0 → b2 (q + 1) = 0 → b3 0 = a3 0 → b3 (q + 1) = x → b4 (q + 1) = y → post 1 (f0, 0, f2, 0, f4, f5, b1, b2, b3, b4, b5, a6, a7, a8, a9, a10, a11)) :
    wpX_learn post (f0, 1, f2, f3, f4, f5, a1, a2, a3, a4, a5, a6, a7, a8, a9, a10, a11) x y := by
  refine br_f (by decide) (br_f hx0 (br_f hx (br_f hy0 (br_t hy (wl_find1 hq h1 h6 (by rw [h2]; decide) (br_t (by decide) ?_))))))
  unfold wX_learn_50 wX_learn_51
  refine br_t rfl (br_t (by rw [h5]; decide) (wl_grow hq h1 h2 h6 (fun b5 e5 => ?_)))
  have e : b5 0 = 1 := by
    rw [e5, h5]
    decide
  dsimp only
  unfold wX_learn_76
  rw [nI_clamp (by omega), e]
  exact ⟨pk_in (q + 1) 512 (by omega), nm_e ⟨pk_in (q + 1) 512 (by omega), nm_e (H _ _ _ _ _ (by rw [pk_un (by omega)]; exact h1) pk_us (by rw [pk_un (by omega), pk_un (by omega)]) pk_us pk_us)⟩⟩
end
end
section
section
variable {f0 f1 f2 f3 f4 f5 : Int32} {a1 a2 a3 a4 a5 a6 a7 a8 a9 a10 a11 : Nat → Int32}
/-- a piece longer than the text of one letter -/
theorem wl_fitN {post : St2 → Prop} {i : Nat} (hi : 2 ≤ i) (hi' : i < 6) (H : post (f0, f1, 1, f3, (-1), 3, a1, a2, a3, a4, a5, a6, a7, a8, a9, a10, a11)) : wpX_fitPiece post (f0, f1, 1, f3, f4, f5, a1, a2, a3, a4, a5, a6, a7, a8, a9, a10, a11) 0 (nI i) := by
  refine br_f ?_ H
  rw [wl_z]
  exact nI_ge (a := 1) (by omega) (by omega)
/-- the piece of one letter, a known word -/
theorem wl_fitK {post : St2 → Prop} {q : Nat} {x y : Int32} (hq : q < 4) (h1 : a1 0 = 0) (h7 : a7 0 = nI q) (h2 : a2 (q + 1) = 0) (h3 : a3 (q + 1) = x) (hx : ¬ x < 0) (h4 : a4 (q + 1) = y)
    (H : post (f0, f1, 1, f3, x, y, a1, a2, a3, a4, a5, a6, a7, a8, a9, a10, a11)) : wpX_fitPiece post (f0, f1, 1, f3, f4, f5, a1, a2, a3, a4, a5, a6, a7, a8, a9, a10, a11) 0 1 := by
  have e : ((0 : Int32) + 0).toNatClampNeg = 0 := by decide
  refine br_t (by decide) (Exists.intro 2 (br_f (by decide) (br_f (by decide) ⟨pk_in 0 12 (by omega), ?_⟩)))
  rw [e, h7]
  refine wl_child hq h1 (fun _ => nm_r (e' := 1) (by decide) (br_t (by decide) ?_)) (fun z => absurd h2 z)
  unfold wX_fitPiece_57
  rw [nI_clamp (by omega), h3, h4]
  exact br_f (nI_pos (by omega)) ⟨pk_in (q + 1) 512 (by omega), br_f hx ⟨pk_in (q + 1) 512 (by omega), nm_e ⟨pk_in (q + 1) 512 (by omega), nm_e H⟩⟩⟩
/-- the piece of one letter, no word -/
theorem wl_fitU {post : St2 → Prop} {q : Nat} (hq : q < 4) (h1 : a1 0 = 0) (h7 : a7 0 = nI q) (h2 : ¬ a2 (q + 1) = 0)
    (H : post (f0, f1, 1, f3, f0, 3, a1, a2, a3, a4, a5, a6, a7, a8, a9, a10, a11)) : wpX_fitPiece post (f0, f1, 1, f3, f4, f5, a1, a2, a3, a4, a5, a6, a7, a8, a9, a10, a11) 0 1 := by
  have e : ((0 : Int32) + 0).toNatClampNeg = 0 := by decide
  refine br_t (by decide) (Exists.intro 2 (br_f (by decide) (br_f (by decide) ⟨pk_in 0 12 (by omega), ?_⟩)))
  rw [e, h7]
  refine wl_child hq h1 (fun z => absurd z h2) (fun _ => nm_r (e' := 1) (by decide) (br_t (by decide) ?_))
  exact br_t (by decide) (br_t rfl H)
/-- one turn of usePiece: the place is NEVER yet -/
theorem wl_55 {post : St2 → Prop} {J : Int32 → (Nat → Int32) → (Nat → Int32) → (Nat → Int32) → (Nat → Int32) → (Nat → Int32) → (Nat → Int32) → (Nat → Int32) → (Nat → Int32) → (Nat → Int32) → (Nat → Int32) → (Nat → Int32) → Prop}
    {i c v : Nat} {z w : Int32} (hi : i < 5) (hc : c < 65) (hw : w + z = nI v) (hv : v ≤ 99) (h9 : a9 i = 1000000)
    (H : ∀ b10 b11 : Nat → Int32, J (nI (i + 1)) a1 a2 a3 a4 a5 a6 a7 a8 (upd a9 i (nI v)) b10 b11) :
    wX_usePiece_55 post J 0 1 (nI c) (nI i) z w f0 f1 f2 f3 f4 f5 a1 a2 a3 a4 a5 a6 a7 a8 a9 a10 a11 := by
  unfold wX_usePiece_55
  refine nm_r (e' := nI v) hw (nm_r (e' := nI i) (wl_i0 i) ⟨pk_in i 65 (by omega), ?_⟩)
  rw [nI_clamp (show i < 2 ^ 31 by omega), h9]
  exact br_f (nI_ge (a := v) (b := 1000000) (by omega) (by omega)) ⟨pk_in i 65 (by omega), nm_e ⟨pk_in c 65 hc, pk_in i 65 (by omega), nm_e ⟨pk_in i 65 (by omega), nm_e (nm_r (nI_1 i) (H _ _))⟩⟩⟩
theorem wl_use {post : St2 → Prop} {v kd : Nat} (hv : v ≤ 99) (hk : kd ≤ 3) (h8 : ∀ j, j < 16 → a8 j = 0) (h9 : ∀ j, j < 5 → a9 j = 1000000) (h9' : ∀ j, j < 5 → a9 (5 + j) = 0)
    (H : ∀ b9 b10 b11 : Nat → Int32, b9 4 = nI v → post (f0, f1, f2, f3, (nI v), (nI kd), a1, a2, a3, a4, a5, a6, a7, a8, b9, b10, b11)) : wpX_usePiece post (f0, f1, f2, f3, (nI v), (nI kd), a1, a2, a3, a4, a5, a6, a7, a8, a9, a10, a11) 0 1 := by
  have e3 : (5 : Int32) * (0 + 1) + nI kd = nI (5 + kd) := wl_i5 kd
  refine nm_r (e' := nI (5 + kd)) e3 ?_
  refine pk_loop (σ := (Nat → Int32) × (Nat → Int32) × (Nat → Int32)) (fun n i s => wX_usePiece_14 post 0 1 (nI (5 + kd)) f0 f1 f2 f3 (nI v) (nI kd) n (nI i) a1 a2 a3 a4 a5 a6 a7 a8 s.1 s.2.1 s.2.2)
    (fun i s => (∀ j, j < i → s.1 j = nI v) ∧ (∀ j, i ≤ j → j < 5 → s.1 j = 1000000) ∧ (∀ j, j < 5 → s.1 (5 + j) = 0)) 5 0 (a9, a10, a11) (by omega)
    ⟨fun j hj => absurd hj (by omega), fun j _ hj => h9 j hj, h9'⟩ ?_ ?_
  · intro n s h
    exact pk_le 5 5 (fun _ => H _ _ _ (h.1 4 (by omega))) (fun z => absurd z (by omega))
  · intro n i s hi h hw
    have hc : s.1 (nI (5 + kd)).toNatClampNeg = 0 := by
      rw [nI_clamp (by omega)]
      exact h.2.2 kd (by omega)
    have U : ∀ z : Int32, z = 0 → wX_usePiece_55 post (wX_usePiece_14 post 0 1 (nI (5 + kd)) f0 f1 f2 f3 (nI v) (nI kd) n) 0 1 (nI (5 + kd)) (nI i) z (nI v + s.1 (nI (5 + kd)).toNatClampNeg) f0 f1 f2 f3 (nI v) (nI kd) a1 a2 a3 a4 a5 a6 a7 a8 s.1 s.2.1 s.2.2 := by
      intro z hz
      refine wl_55 (v := v) hi (by omega) ?_ hv (h.2.1 i (by omega) hi) (fun b10 b11 => hw (upd s.1 i (nI v), b10, b11) ⟨?_, ?_, ?_⟩)
      · rw [hc, hz, ← nI_0, nI_add, nI_add, Nat.add_zero]
      · intro j hj
        show upd s.1 i (nI v) j = nI v
        by_cases e : j = i
        · rw [e, pk_us]
        · rw [pk_un e]
          exact h.1 j (by omega)
      · intro j hj hj'
        show upd s.1 i (nI v) j = 1000000
        rw [pk_un (by omega)]
        exact h.2.1 j (by omega) hj'
      · intro j hj
        show upd s.1 i (nI v) (5 + j) = 0
        rw [pk_un (by omega)]
        exact h.2.2 j hj
    have e4 : (4 : Int32) * nI i + nI kd = nI (4 * i + kd) := by
      rw [show (4 : Int32) = nI 4 from rfl, pk_mul, nI_add]
    refine pk_le 5 i (fun z => absurd z (by omega)) (fun _ => ⟨pk_in (5 + kd) 65 (by omega), pk_le 4 i (fun _ => U 0 rfl) (fun z => ⟨pk_in (4 * i + kd) 16 (by omega) e4, U _ ?_⟩)⟩)
    rw [e4, nI_clamp (by omega)]
    exact h8 _ (by omega)
/-- the pieces of two to five letters -/
theorem wl_117 {post : St2 → Prop} {J : Int32 → Int32 → Int32 → Int32 → Int32 → Int32 → Int32 → (Nat → Int32) → (Nat → Int32) → (Nat → Int32) → (Nat → Int32) → (Nat → Int32) → (Nat → Int32) → (Nat → Int32) → (Nat → Int32) → (Nat → Int32) → (Nat → Int32) → (Nat → Int32) → Prop}
    (H : ∀ g4 g5 : Int32, J (-1) f0 f1 1 f3 g4 g5 a1 a2 a3 a4 a5 a6 a7 a8 a9 a10 a11) : wX_cutText_117 post J 0 5 2 f0 f1 1 f3 f4 f5 a1 a2 a3 a4 a5 a6 a7 a8 a9 a10 a11 :=
  loop_i (σ := Int32 × Int32) (fun n i s => wX_cutText_117 post J 0 n (nI i) f0 f1 1 f3 s.1 s.2 a1 a2 a3 a4 a5 a6 a7 a8 a9 a10 a11) (fun i _ => 2 ≤ i) 6
    (fun n s _ => pk_lt 5 6 (fun _ => nm_r (e' := -1) (by decide) (H _ _)) (fun z => absurd z (by omega)))
    (fun n i s hi h hw => pk_lt 5 i (fun z => absurd z (by omega)) (fun _ => wl_fitN h hi (br_t (by decide) (nm_r (nI_1 i) (hw (-1, 3) (by omega))))))
    5 2 (f4, f5) (by omega) (by omega) (by omega)
theorem wl_81 {post : St2 → Prop} {J : Int32 → Int32 → Int32 → Int32 → Int32 → Int32 → Int32 → (Nat → Int32) → (Nat → Int32) → (Nat → Int32) → (Nat → Int32) → (Nat → Int32) → (Nat → Int32) → (Nat → Int32) → (Nat → Int32) → (Nat → Int32) → (Nat → Int32) → (Nat → Int32) → Prop}
    (h9 : ∀ j, j < 5 → a9 (5 + j) = 0)
    (H : ∀ b9 b10 : Nat → Int32, (∀ j, j < 5 → b9 j = 1000000) → (∀ j, j < 5 → b9 (5 + j) = 0) → ∃ n, wX_cutText_117 post J 0 n 1 f0 f1 f2 f3 f4 f5 a1 a2 a3 a4 a5 a6 a7 a8 b9 b10 a11) :
    ∃ n, wX_cutText_81 post J 0 f0 f1 f2 f3 f4 f5 n 0 a1 a2 a3 a4 a5 a6 a7 a8 a9 a10 a11 := by
  refine pk_loop (σ := (Nat → Int32) × (Nat → Int32)) (fun n i s => wX_cutText_81 post J 0 f0 f1 f2 f3 f4 f5 n (nI i) a1 a2 a3 a4 a5 a6 a7 a8 s.1 s.2 a11)
    (fun i s => (∀ j, j < i → s.1 j = 1000000) ∧ (∀ j, j < 5 → s.1 (5 + j) = 0)) 5 0 (a9, a10) (by omega) ⟨fun j hj => absurd hj (by omega), h9⟩ ?_ ?_
  · intro n s h
    exact pk_le 5 5 (fun _ => H _ _ h.1 h.2) (fun z => absurd z (by omega))
  · intro n i s hi h hw
    refine pk_le 5 i (fun z => absurd z (by omega)) (fun _ => ⟨pk_in i 65 (by omega) (wl_i0 i), nm_e ⟨pk_in i 65 (by omega) (wl_i0 i), nm_e (nm_r (nI_1 i) (hw (upd s.1 ((5 : Int32) * 0 + nI i).toNatClampNeg 1000000, upd s.2 ((5 : Int32) * 0 + nI i).toNatClampNeg 0) ⟨?_, ?_⟩))⟩⟩)
    · intro j hj
      dsimp only
      rw [wl_i0, nI_clamp (by omega)]
      by_cases e : j = i
      · rw [e, pk_us]
      · rw [pk_un e]
        exact h.1 j (by omega)
    · intro j hj
      dsimp only
      rw [wl_i0, nI_clamp (by omega), pk_un (by omega)]
      exact h.2 j hj
theorem wl_15 {post : St2 → Prop} (H : ∀ b9 b10 b11 : Nat → Int32, (∀ j, j < 5 → b9 (5 + j) = 0) → ∃ n, wX_cutText_75 post n 0 f0 f1 1 f3 f4 f5 a1 a2 a3 a4 a5 a6 a7 a8 b9 b10 b11) :
    ∃ n, wX_cutText_15 post f0 f1 1 f3 f4 f5 n 0 a1 a2 a3 a4 a5 a6 a7 a8 a9 a10 a11 := by
  refine pk_loop (σ := (Nat → Int32) × (Nat → Int32) × (Nat → Int32)) (fun n i s => wX_cutText_15 post f0 f1 1 f3 f4 f5 n (nI i) a1 a2 a3 a4 a5 a6 a7 a8 s.1 s.2.1 s.2.2)
    (fun i s => ∀ j, j < i → s.1 (5 + j) = 0) 5 0 (a9, a10, a11) (by omega) (fun j hj => absurd hj (by omega)) ?_ ?_
  · intro n s h
    exact pk_le 5 5 (fun _ => nm_r (e' := 0) (by decide) (H _ _ _ h)) (fun z => absurd z (by omega))
  · intro n i s hi h hw
    refine pk_le 5 i (fun z => absurd z (by omega)) (fun _ => ⟨pk_in (5 + i) 65 (by omega) (wl_i5 i), nm_e ⟨pk_in (5 + i) 65 (by omega) (wl_i5 i), nm_e ⟨pk_in (5 + i) 65 (by omega) (wl_i5 i), nm_e (nm_r (nI_1 i) (hw (upd s.1 ((5 : Int32) * 1 + nI i).toNatClampNeg 0, upd s.2.1 ((5 : Int32) * 1 + nI i).toNatClampNeg 1, upd s.2.2 ((5 : Int32) * 1 + nI i).toNatClampNeg 0) ?_))⟩⟩⟩)
    intro j hj
    dsimp only
    rw [wl_i5, nI_clamp (by omega)]
    by_cases e : j = i
    · rw [e, pk_us]
    · rw [pk_un (by omega)]
      exact h j (by omega)
/-- a text of one letter, whose piece costs v: the cut costs v -/
theorem wl_cut {post : St2 → Prop} {v kd : Nat} (hv : v ≤ 99) (hk : kd ≤ 3) (h8 : ∀ j, j < 16 → a8 j = 0)
    (fit : ∀ (P : St2 → Prop) (b9 b10 b11 : Nat → Int32), P (f0, f1, 1, 1, (nI v), (nI kd), a1, a2, a3, a4, a5, a6, a7, a8, b9, b10, b11) → wpX_fitPiece P (f0, f1, 1, 1, f4, f5, a1, a2, a3, a4, a5, a6, a7, a8, b9, b10, b11) 0 1)
    (H : ∀ (g4 g5 : Int32) (b9 b10 b11 : Nat → Int32), b9 4 = nI v → post (f0, f1, 1, 1, g4, g5, a1, a2, a3, a4, a5, a6, a7, a8, b9, b10, b11)) : wpX_cutText post (f0, f1, 1, 0, f4, f5, a1, a2, a3, a4, a5, a6, a7, a8, a9, a10, a11) := by
  refine br_t rfl (wl_15 (fun b9 b10 b11 h => Exists.intro 2 (br_f (by decide) (wl_81 h (fun c9 c10 k k' => Exists.intro 6 (br_f (by decide) (fit _ _ _ _ (br_f (nI_pos (by omega)) (wl_use hv hk h8 k k' (fun d9 d10 d11 e => ?_))))))))))
  exact nm_r (e' := 2) (by decide) (wl_117 (fun g4 g5 => br_t (by decide) (H g4 g5 d9 d10 d11 e)))
theorem wl_cost {post : Int32 → St2 → Prop} {v kd : Nat} (hv : v ≤ 99) (hk : kd ≤ 3) (h8 : ∀ j, j < 16 → a8 j = 0)
    (fit : ∀ (P : St2 → Prop) (b9 b10 b11 : Nat → Int32), P (f0, f1, 1, 1, (nI v), (nI kd), a1, a2, a3, a4, a5, a6, a7, a8, b9, b10, b11) → wpX_fitPiece P (f0, f1, 1, 1, f4, f5, a1, a2, a3, a4, a5, a6, a7, a8, b9, b10, b11) 0 1)
    (H : ∀ (g4 g5 : Int32) (b9 b10 b11 : Nat → Int32), post (nI v) (f0, f1, 1, 1, g4, g5, a1, a2, a3, a4, a5, a6, a7, a8, b9, b10, b11)) : wpX_cost post (f0, f1, 1, 0, f4, f5, a1, a2, a3, a4, a5, a6, a7, a8, a9, a10, a11) := by
  unfold wpX_cost
  dsimp only
  refine wl_cut hv hk h8 fit (fun g4 g5 b9 b10 b11 e => ?_)
  dsimp only
  rw [e]
  exact H _ _ _ _ _
end
end
section
section
variable {f0 f1 f2 f3 f4 f5 : Int32} {a1 a2 a3 a4 a5 a6 a7 a8 a9 a10 a11 : Nat → Int32}
theorem wl_123 {post : St2 → Prop} {mc ms kc ks : Nat}
    (H : ∀ b2 b3 : Nat → Int32, b2 0 = 0 → (∀ j, 0 < j → j < 512 → b2 j = -1) → (∀ j, j < 512 → b3 j = -1) → post (f0, f1, f2, f3, f4, f5, a1, b2, b3, a4, a5, a6, a7, a8, a9, a10, a11)) :
    ∃ n, wX_init_123 post mc ms kc ks f0 f1 f2 f3 f4 f5 n 0 a1 a2 a3 a4 a5 a6 a7 a8 a9 a10 a11 := by
  refine pk_loop (σ := (Nat → Int32) × (Nat → Int32)) (fun n i s => wX_init_123 post mc ms kc ks f0 f1 f2 f3 f4 f5 n (nI i) a1 s.1 s.2 a4 a5 a6 a7 a8 a9 a10 a11)
    (fun i s => (∀ j, j < i → s.1 j = -1) ∧ (∀ j, j < i → s.2 j = -1)) 512 0 (a2, a3) (by omega) ⟨fun j hj => absurd hj (by omega), fun j hj => absurd hj (by omega)⟩ ?_ ?_
  · intro n s h
    refine pk_le 512 512 (fun _ => nm_e (H _ _ pk_us (fun j h0 hj => ?_) h.2)) (fun z => absurd z (by omega))
    rw [pk_un (by omega)]
    exact h.1 j hj
  · intro n i s hi h hw
    refine pk_le 512 i (fun z => absurd z (by omega)) (fun _ => ⟨pk_in i 512 hi, nm_e ⟨pk_in i 512 hi, nm_e (nm_r (nI_1 i) (hw (upd s.1 (nI i).toNatClampNeg (-1), upd s.2 (nI i).toNatClampNeg (-1)) ⟨?_, ?_⟩))⟩⟩)
    · intro j hj
      dsimp only
      rw [nI_clamp (by omega)]
      by_cases e : j = i
      · rw [e, pk_us]
      · rw [pk_un e]
        exact h.1 j (by omega)
    · intro j hj
      dsimp only
      rw [nI_clamp (by omega)]
      by_cases e : j = i
      · rw [e, pk_us]
      · rw [pk_un e]
        exact h.2 j (by omega)
theorem wl_26 {post : St2 → Prop} {mc ms : Nat} {z0 : Int32} (hc : 11 ≤ mc) (hs : 2788 ≤ ms)
    (H : ∀ b2 b3 : Nat → Int32, b2 0 = 0 → (∀ j, 0 < j → j < 512 → b2 j = -1) → (∀ j, j < 512 → b3 j = -1) →
      post (z0, f1, f2, f3, f4, f5, fun _ => 0, b2, b3, fun _ => 0, fun _ => 0, fun _ => 0, fun _ => 0, fun _ => 0, fun _ => 0, fun _ => 0, fun _ => 0)) :
    wX_init_26 post mc ms z0 0 0 f0 f1 f2 f3 f4 f5 := by
  unfold wX_init_26
  exact ⟨by omega, by omega, by omega, by omega, by omega, by omega, by omega, by omega, by omega, by omega, by omega, by omega, by omega, by omega, by omega, by omega, by omega, by omega, by omega, by omega, by omega, by omega, wl_123 H⟩
/-- behind the second learn, when it learnt nothing -/
theorem wl_99u {post : Int32 → St0 → Prop} {mc ms kc ks p q : Nat} {x1 x2 : Int32} (hp : p ≤ 99) (hq : q < 4) (hx : x1 &&& 3 = nI q) (h1 : a1 0 = 0) (h2 : ¬ a2 (q + 1) = 0) (h6 : a6 0 = nI q)
    (h8 : ∀ j, j < 16 → a8 j = 0) (H : post 1 ()) :
    wL_lawOf_99 post mc ms x1 x2 (nI p) 0 (-1) (-1) kc ks (nI p) 1 0 f3 f4 f5 a1 a2 a3 a4 a5 a6 a7 a8 a9 a10 a11 := by
  unfold wL_lawOf_99
  refine br_t rfl (wl_find1 hq h1 h6 h2 (br_f (by decide) (br_t rfl (br_t (by decide) ⟨pk_in 0 12 (by omega), nm_e (nm_r (e' := 1) (by decide) (br_t rfl ?_))⟩))))
  refine wl_cost (v := p) (kd := 3) hp (by omega) h8 (fun P b9 b10 b11 hP => wl_fitU hq h1 ?_ h2 hP) (fun _ _ _ _ _ => br_t rfl (br_t rfl H))
  rw [wl_c0, pk_us, wl_and4, hx]
/-- behind the second learn, when it learnt the word -/
theorem wl_99k {post : Int32 → St0 → Prop} {mc ms kc ks c k q : Nat} {x1 x5 : Int32} (hc : c ≤ 99) (hk : k ≤ 2) (hq : q < 4) (hx : x1 &&& 3 = nI q) (h1 : a1 0 = 0) (h2 : a2 (q + 1) = 0)
    (h3 : a3 0 = -1) (h3' : a3 (q + 1) = nI c) (h4 : a4 (q + 1) = nI k) (h8 : ∀ j, j < 16 → a8 j = 0) (H : post 1 ()) :
    wL_lawOf_99 post mc ms x1 (nI c) x5 1 1 1 kc ks f0 0 0 f3 f4 f5 a1 a2 a3 a4 a5 a6 a7 a8 a9 a10 a11 := by
  unfold wL_lawOf_99
  refine br_t rfl (wl_find0 (br_t (by decide) ⟨pk_in 0 512 (by omega), br_t (by rw [wl_c0, h3]) (br_t (by decide) ⟨pk_in 0 12 (by omega), nm_e (nm_r (e' := 1) (by decide) (br_t rfl ?_))⟩)⟩))
  refine wl_cost (v := c) (kd := k) hc (by omega) h8 (fun P b9 b10 b11 hP => wl_fitK hq h1 ?_ h2 h3' (nI_pos (by omega)) h4 hP) (fun _ _ _ _ _ => br_f (by decide) (br_t rfl H))
  rw [wl_c0, pk_us, wl_and4, hx]
theorem wl_57u {post : Int32 → St0 → Prop} {mc ms kc ks p : Nat} {x1 x2 x3 : Int32} (hp : p ≤ 99) (hb : x2 < 0 ∨ 99 < x2 ∨ x3 < 0 ∨ 2 < x3) (h1 : a1 0 = 0) (h2 : ∀ j, 0 < j → j < 512 → a2 j = -1)
    (h8 : ∀ j, j < 16 → a8 j = 0) (H : post 1 ()) :
    wL_lawOf_57 post mc ms x1 x2 x3 (nI p) 0 kc ks (nI p) 0 0 f3 f4 f5 a1 a2 a3 a4 a5 a6 a7 a8 a9 a10 a11 := by
  obtain ⟨q, hq, hx⟩ := pk_andE x1 (m := 3) 2 (by decide)
  unfold wL_lawOf_57
  refine wl_learn0 (br_t rfl (br_t (by decide) ⟨pk_in 0 5 (by omega), nm_e (nm_r (e' := 1) (by decide) (br_t rfl (wl_bad hb (br_t rfl (wl_99u hp hq hx h1 ?_ ?_ h8 H)))))⟩))
  · rw [h2 (q + 1) (by omega) (by omega)]
    decide
  · rw [wl_c0, pk_us, hx]
theorem wl_57k {post : Int32 → St0 → Prop} {mc ms kc ks c k : Nat} {x1 x5 : Int32} (hc : c ≤ 99) (hk : k ≤ 2) (h1 : a1 0 = 0) (h2 : ∀ j, 0 < j → j < 512 → a2 j = -1) (h3 : a3 0 = -1) (h5 : a5 0 = 0)
    (h8 : ∀ j, j < 16 → a8 j = 0) (H : post 1 ()) :
    wL_lawOf_57 post mc ms x1 (nI c) (nI k) x5 1 kc ks f0 0 0 f3 f4 f5 a1 a2 a3 a4 a5 a6 a7 a8 a9 a10 a11 := by
  obtain ⟨q, hq, hx⟩ := pk_andE x1 (m := 3) 2 (by decide)
  unfold wL_lawOf_57
  refine wl_learn0 (br_t rfl (br_t (by decide) ⟨pk_in 0 5 (by omega), nm_e (nm_r (e' := 1) (by decide) (br_t rfl ?_))⟩))
  refine wl_learn1 hq h1 (h2 (q + 1) (by omega) (by omega)) h5 ?_ (nI_pos (by omega)) (nI_nlt (a := 99) hc (by omega)) (nI_pos (by omega)) (nI_le (b := 2) hk (by omega))
    (fun b1 b2 b3 b4 b5 e1 e2 e3 e3' e4 => br_f (by decide) (wl_99k hc hk hq hx e1 e2 (by rw [e3, h3]) e3' e4 h8 H))
  rw [wl_c0, pk_us, hx]
theorem wl_31 {post : Int32 → St0 → Prop} {mc ms kc ks p : Nat} {x1 x2 x3 : Int32} (hp : p ≤ 99) (h1 : a1 0 = 0) (h2 : ∀ j, 0 < j → j < 512 → a2 j = -1) (h3 : a3 0 = -1) (h5 : a5 0 = 0)
    (h8 : ∀ j, j < 16 → a8 j = 0) (H : post 1 ()) :
    wL_lawOf_31 post mc ms x1 x2 x3 (nI p) kc ks (nI p) 0 0 f3 f4 f5 a1 a2 a3 a4 a5 a6 a7 a8 a9 a10 a11 := by
  unfold wL_lawOf_31
  refine br_c (fun h => wl_57u hp (Or.inl h) h1 h2 h8 H) (fun n1 => br_c (fun h => wl_57u hp (Or.inr (Or.inl h)) h1 h2 h8 H) (fun n2 => br_c (fun h => wl_57u hp (Or.inr (Or.inr (Or.inl h))) h1 h2 h8 H) (fun n3 => br_c (fun h => wl_57u hp (Or.inr (Or.inr (Or.inr h))) h1 h2 h8 H) (fun n4 => ?_))))
  obtain ⟨c, hc, rfl⟩ := nI_of2 (M := 99) (n := 99) (by decide) n1 (Int32.not_lt.mp n2)
  obtain ⟨k, hk, rfl⟩ := nI_of2 (M := 2) (n := 2) (by decide) n3 (Int32.not_lt.mp n4)
  exact wl_57k hc hk h1 h2 h3 h5 h8 H
theorem wl_lawOf {post : Int32 → St0 → Prop} {mc ms : Nat} (p0 p1 p2 p3 : Int32) (hc : 12 ≤ mc) (hs : 2805 ≤ ms) (H : post 1 ()) : wpL_lawOf post mc ms () p0 p1 p2 p3 := by
  unfold wpL_lawOf
  refine ⟨by omega, by omega, 11, 2788, by omega, by omega, ?_⟩
  refine br_c (fun h => br_c (fun h' => ?_) (fun h' => ?_)) (fun h => ?_)
  · have h0 : ¬ p0 < 0 := fun z => absurd (Int32.lt_of_lt_of_le z (by decide : (0 : Int32) ≤ 1)) (Int32.not_lt.mpr h)
    obtain ⟨p, hp, e⟩ := nI_of2 (M := 99) (n := 99) (by decide) h0 h'
    refine wl_26 (by omega) (by omega) (fun b2 b3 k2 k2' k3 => br_t h (br_t h' ?_))
    rw [e]
    exact wl_31 hp rfl k2' (k3 0 (by omega)) rfl (fun _ _ => rfl) H
  · exact wl_26 (by omega) (by omega) (fun b2 b3 k2 k2' k3 => br_t h (br_f h' (wl_31 (p := 99) (by omega) rfl k2' (k3 0 (by omega)) rfl (fun _ _ => rfl) H)))
  · exact wl_26 (by omega) (by omega) (fun b2 b3 k2 k2' k3 => br_f h (wl_31 (p := 1) (by omega) rfl k2' (k3 0 (by omega)) rfl (fun _ _ => rfl) H))
theorem wl_cell {post : Int32 → Prop} {L : Nat} {xs : Nat → Int32} (i : Nat) (hL : L ≤ 4) (hi : i < 4) (H : ∀ r, post r) : wpL_cellAt post L xs () (nI i) :=
  pk_le L i (fun _ => H 0) (fun z => ⟨pk_in i L z, H _⟩)
end
end
section
theorem i_vc (xs : Nat → Int32) (L : Nat) (hL : L ≤ 4) : wpL_law (fun r => r = 1) L xs := by
  unfold wpL_law
  exact wl_cell 0 hL (by omega) (fun r1 => wl_cell 1 hL (by omega) (fun r2 => wl_cell 2 hL (by omega) (fun r3 => wl_cell 3 hL (by omega) (fun r4 => ⟨1428, 22848, by omega, by omega, wl_lawOf r1 r2 r3 r4 (by omega) (by omega) rfl⟩))))
end
