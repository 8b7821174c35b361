section
/-! ===== the store's methods, each at the states that the law reaches ===== -/
theorem cs_i16 (l i : Nat) : (16 : Int32) * nI l + nI i = nI (16 * l + i) := by
  rw [show (16 : Int32) = nI 16 from rfl, pk_mul, nI_add]
theorem cs_i4 (l i : Nat) : (4 : Int32) * nI l + nI i = nI (4 * l + i) := by
  rw [show (4 : Int32) = nI 4 from rfl, pk_mul, nI_add]
theorem cs_z16 (i : Nat) : (16 : Int32) * 0 + nI i = nI i := by
  rw [Int32.mul_zero, Int32.zero_add]
theorem cs_z4 (i : Nat) : (4 : Int32) * 0 + nI i = nI i := by
  rw [Int32.mul_zero, Int32.zero_add]
theorem cs_c0 : (0 : Int32).toNatClampNeg = 0 := pk_cl 0
theorem cs_u0 {a : Nat → Int32} {x : Int32} : upd a (0 : Int32).toNatClampNeg x = upd a 0 x := by rw [cs_c0]
theorem cs_uk {a : Nat → Int32} {x i : Int32} (n : Nat) (hi : i = nI n) (hn : n < 2 ^ 31) : upd a i.toNatClampNeg x = upd a n x := by
  rw [hi, nI_clamp hn]
/-- an array's first i places are f's: one more -/
theorem cs_fill {f s : Nat → Int32} {i : Nat} {x : Int32} (h : ∀ j, j < i → s j = f j) (hx : x = f i) : ∀ j, j < i + 1 → upd s i x j = f j := by
  intro j hj
  by_cases e : j = i
  · rw [e, pk_us, hx]
  · rw [pk_un e]
    exact h j (by omega)
/-- the same behind an offset -/
theorem cs_fillo {f s : Nat → Int32} {i c : Nat} {x : Int32} (h : ∀ j, j < i → s (c + j) = f j) (hx : x = f i) : ∀ j, j < i + 1 → upd s (c + i) x (c + j) = f j := by
  intro j hj
  by_cases e : j = i
  · rw [e, pk_us, hx]
  · rw [pk_un (by omega)]
    exact h j (by omega)
section
variable {m h o p : Int32} {a1 a2 a3 a4 a5 a6 a7 a8 a9 a10 a11 a12 a13 a14 a15 a16 : Nat → Int32}
/-! unusedLog -/
theorem cs_un_a {post : Int32 → Prop} (H : post 0) : wpX_unusedLog post (-1, h, -1, p, a1, a2, a3, a4, a5, a6, a7, a8, a9, a10, a11, a12, a13, a14, a15, a16) :=
  ⟨1, br_f (by decide) (br_f (by decide) (br_f (by decide) H))⟩
theorem cs_un_b {post : Int32 → Prop} (H : post 1) : wpX_unusedLog post (-1, h, 0, p, a1, a2, a3, a4, a5, a6, a7, a8, a9, a10, a11, a12, a13, a14, a15, a16) :=
  ⟨2, br_f (by decide) (br_f (by decide) (br_t rfl (nm_r (show (0 : Int32) + 1 = 1 by decide) (br_f (by decide) (br_f (by decide) (br_f (by decide) H))))))⟩
theorem cs_un_c {post : Int32 → Prop} (H : post 1) : wpX_unusedLog post (0, h, -1, p, a1, a2, a3, a4, a5, a6, a7, a8, a9, a10, a11, a12, a13, a14, a15, a16) :=
  ⟨2, br_f (by decide) (br_t rfl (nm_r (show (0 : Int32) + 1 = 1 by decide) (br_f (by decide) (br_f (by decide) (br_f (by decide) H)))))⟩
/-! clearLog -/
theorem cs_clear {post : St2 → Prop} {l : Nat} (hl : l < 3)
    (H : ∀ b : Nat → Int32, (∀ j, 16 * l ≤ j → j < 16 * l + 16 → b j = 0) → (∀ j, j < 16 * l ∨ 16 * l + 16 ≤ j → b j = a9 j) → post (m, h, o, p, a1, a2, a3, a4, a5, a6, a7, a8, b, a10, a11, a12, a13, a14, a15, a16)) :
    wpX_clearLog post (m, h, o, p, a1, a2, a3, a4, a5, a6, a7, a8, a9, a10, a11, a12, a13, a14, a15, a16) (nI l) :=
  pk_loop (fun n i s => wX_clearLog_2 post (nI l) m h o p n (nI i) a1 a2 a3 a4 a5 a6 a7 a8 s a10 a11 a12 a13 a14 a15 a16)
    (fun i s => (∀ j, 16 * l ≤ j → j < 16 * l + i → s j = 0) ∧ (∀ j, j < 16 * l ∨ 16 * l + 16 ≤ j → s j = a9 j)) 16 0 a9 (by omega)
    ⟨fun j h1 h2 => absurd h1 (by omega), fun j _ => rfl⟩
    (fun n s hh => pk_le 16 16 (fun _ => H s hh.1 hh.2) (fun z => absurd z (by omega)))
    (fun n i s hi hh hw => pk_le 16 i (fun z => absurd z (by omega)) (fun _ => ⟨pk_in (16 * l + i) 48 (by omega) (cs_i16 l i),
      nm_r (cs_uk (16 * l + i) (cs_i16 l i) (by omega)) (nm_r (nI_1 i) (hw _ ⟨fun j h1 h2 => by
        by_cases e : j = 16 * l + i
        · rw [e, pk_us]
        · rw [pk_un e]
          exact hh.1 j h1 (by omega), fun j hj => by
        rw [pk_un (by omega)]
        exact hh.2 j hj⟩))⟩))
/-! restart -/
theorem cs_restart {post : St2 → Prop} {r : Nat} (hr : r < 3)
    (hu : ∀ (q : Int32 → Prop) (b10 b11 b12 : Nat → Int32), q (nI r) → wpX_unusedLog q (m, 0, -1, p, a1, a2, a3, a4, a5, a6, a7, a8, a9, b10, b11, b12, a13, a14, a15, a16))
    (H : ∀ b9 b10 b11 b12 : Nat → Int32, (∀ j, 16 * r ≤ j → j < 16 * r + 16 → b9 j = 0) → (∀ j, j < 16 * r ∨ 16 * r + 16 ≤ j → b9 j = a9 j) → (∀ j, j < 5 → b10 j = -1 ∧ b11 j = 0 ∧ b12 j = 0) → post (m, 0, -1, (nI r), a1, a2, a3, a4, a5, a6, a7, a8, b9, b10, b11, b12, a13, a14, a15, a16)) :
    wpX_restart post (m, h, o, p, a1, a2, a3, a4, a5, a6, a7, a8, a9, a10, a11, a12, a13, a14, a15, a16) :=
  pk_loop (σ := (Nat → Int32) × (Nat → Int32) × (Nat → Int32)) (fun n i s => wX_restart_2 post m h o p n (nI i) a1 a2 a3 a4 a5 a6 a7 a8 a9 s.1 s.2.1 s.2.2 a13 a14 a15 a16)
    (fun i s => ∀ j, j < i → s.1 j = -1 ∧ s.2.1 j = 0 ∧ s.2.2 j = 0) 5 0 (a10, a11, a12) (by omega) (fun j hj => absurd hj (by omega))
    (fun n s hh => pk_le 5 5 (fun _ => hu _ s.1 s.2.1 s.2.2 (cs_clear hr (fun b h1 h2 => H b s.1 s.2.1 s.2.2 h1 h2 hh))) (fun z => absurd z (by omega)))
    (fun n i s hi hh hw => pk_le 5 i (fun z => absurd z (by omega)) (fun _ => ⟨pk_in i 5 hi, nm_r (cs_uk i rfl (by omega)) ⟨pk_in i 5 hi, nm_r (cs_uk i rfl (by omega)) ⟨pk_in i 5 hi, nm_r (cs_uk i rfl (by omega))
      (nm_r (nI_1 i) (hw (upd s.1 i (-1), upd s.2.1 i 0, upd s.2.2 i 0) (fun j hj => ⟨cs_fill (f := fun _ => -1) (fun j hj => (hh j hj).1) rfl j hj, cs_fill (f := fun _ => 0) (fun j hj => (hh j hj).2.1) rfl j hj, cs_fill (f := fun _ => 0) (fun j hj => (hh j hj).2.2) rfl j hj⟩)))⟩⟩⟩))
/-- the store as it is made: no log holds a node, no frame does -/
def cs_A (a9 a10 a11 a12 : Nat → Int32) : Prop := (∀ j, j < 48 → a9 j = 0) ∧ (∀ j, j < 5 → a10 j = -1 ∧ a11 j = 0 ∧ a12 j = 0)
theorem cs_init {post : St2 → Prop} {mc ms : Nat} (hc : 16 ≤ mc) (hs : 960 ≤ ms)
    (H : ∀ b1 b2 b3 b4 b5 b6 b7 b8 b9 b10 b11 b12 b13 b14 b15 b16 : Nat → Int32, cs_A b9 b10 b11 b12 → post (-1, 0, -1, 0, b1, b2, b3, b4, b5, b6, b7, b8, b9, b10, b11, b12, b13, b14, b15, b16)) : wpX_init post mc ms (m, h, o, p) :=
  ⟨by omega, by omega, by omega, by omega, by omega, by omega, by omega, by omega, by omega, by omega, by omega, by omega, by omega, by omega, by omega, by omega,
   by omega, by omega, by omega, by omega, by omega, by omega, by omega, by omega, by omega, by omega, by omega, by omega, by omega, by omega, by omega, by omega,
   pk_loop (fun n i s => wX_init_138 post mc ms 16 960 (-1) h o p n (nI i) (fun _ => 0) s (fun _ => 0) (fun _ => 0) (fun _ => 0) (fun _ => 0) (fun _ => 0) (fun _ => 0) (fun _ => 0) (fun _ => 0) (fun _ => 0) (fun _ => 0) (fun _ => 0) (fun _ => 0) (fun _ => 0) (fun _ => 0))
    (fun _ _ => True) 64 0 (fun _ => 0) (by omega) trivial
    (fun n s _ => pk_le 64 64 (fun _ => cs_restart (r := 0) (by omega) (fun q b10 b11 b12 hq => cs_un_a hq) (fun b9 b10 b11 b12 h1 h2 h3 => H _ _ _ _ _ _ _ _ _ _ _ _ _ _ _ _ ⟨fun j hj => by
        by_cases e : j < 16
        · exact h1 j (by omega) (by omega)
        · exact h2 j (by omega), h3⟩)) (fun z => absurd z (by omega)))
    (fun n i s hi _ hw => pk_le 64 i (fun z => absurd z (by omega)) (fun _ => ⟨pk_in i 64 hi, nm_e (nm_r (nI_1 i) (hw _ trivial))⟩))⟩
/-! frames -/
theorem cs_evict {post : St2 → Prop} (hn : a10 0 = -1) (H : post (m, h, o, p, a1, a2, a3, a4, a5, a6, a7, a8, a9, (upd a10 0 (-1)), a11, a12, a13, a14, a15, a16)) : wpX_evict post (m, h, o, p, a1, a2, a3, a4, a5, a6, a7, a8, a9, a10, a11, a12, a13, a14, a15, a16) 0 :=
  ⟨pk_in 0 5 (by omega), br_t (by rw [cs_c0, hn]; decide) ⟨pk_in 0 5 (by omega), nm_r cs_u0 H⟩⟩
theorem cs_loadHome {post : St2 → Prop} {k : Nat} (hk : k < 16) (H : ∀ b13 b14 b15 b16 : Nat → Int32, post (m, h, o, p, a1, a2, a3, a4, a5, a6, a7, a8, a9, a10, a11, a12, b13, b14, b15, b16)) : wpX_loadHome post (m, h, o, p, a1, a2, a3, a4, a5, a6, a7, a8, a9, a10, a11, a12, a13, a14, a15, a16) 0 (nI k) :=
  ⟨pk_in k 16 hk, pk_in 0 5 (by omega), fun b16 _ => pk_loop (σ := (Nat → Int32) × (Nat → Int32) × (Nat → Int32)) (fun n i s => wX_loadHome_14 post 0 (nI k) m h o p n (nI i) a1 a2 a3 a4 a5 a6 a7 a8 a9 a10 a11 a12 s.1 s.2.1 s.2.2 b16)
    (fun _ _ => True) 4 0 (a13, a14, a15) (by omega) trivial
    (fun n s _ => pk_le 4 4 (fun _ => H s.1 s.2.1 s.2.2 b16) (fun z => absurd z (by omega)))
    (fun n i s hi _ hw => pk_le 4 i (fun z => absurd z (by omega)) (fun _ => ⟨pk_in (4 * k + i) 64 (by omega) (cs_i4 k i), pk_in i 20 (by omega) (cs_z4 i), fun c13 _ =>
      ⟨pk_in (4 * k + i) 64 (by omega) (cs_i4 k i), pk_in i 20 (by omega) (cs_z4 i), fun c14 _ =>
      ⟨pk_in (4 * k + i) 64 (by omega) (cs_i4 k i), pk_in i 20 (by omega) (cs_z4 i), fun c15 _ => nm_r (nI_1 i) (hw (c13, c14, c15) trivial)⟩⟩⟩))⟩
theorem cs_new_h {post : Int32 → Prop} {k q : Nat} (hk : k < 16) (hq : q < 3) (hp : p = nI q) (h9 : a9 (16 * q + k) = 0) (H : post (-1)) : wpX_newestLog post (-1, h, -1, p, a1, a2, a3, a4, a5, a6, a7, a8, a9, a10, a11, a12, a13, a14, a15, a16) (nI k) := by
  subst hp
  exact ⟨pk_in (16 * q + k) 48 (by omega) (cs_i16 q k), br_t (by rw [cs_i16, nI_clamp (by omega)]; exact h9) (br_t (by decide) (br_t (by decide) H))⟩
theorem cs_new_l {post : Int32 → Prop} {k q : Nat} (hk : k < 16) (hq : q < 3) (hp : p = nI q) (h9 : a9 (16 * q + k) = 0) (hl : ¬ a9 k = 0) (H : post 0) : wpX_newestLog post (0, h, -1, p, a1, a2, a3, a4, a5, a6, a7, a8, a9, a10, a11, a12, a13, a14, a15, a16) (nI k) := by
  subst hp
  exact ⟨pk_in (16 * q + k) 48 (by omega) (cs_i16 q k), br_t (by rw [cs_i16, nI_clamp (by omega)]; exact h9) (br_t (by decide) (br_f (by decide) ⟨pk_in k 48 (by omega) (cs_z16 k), br_f (by rw [cs_z16, nI_clamp (by omega)]; exact hl) H⟩))⟩
theorem cs_load_h {post : St2 → Prop} {k q : Nat} (hk : k < 16) (hq : q < 3) (hp : p = nI q) (h9 : a9 (16 * q + k) = 0)
    (H : ∀ b13 b14 b15 b16 : Nat → Int32, post (-1, h, -1, p, a1, a2, a3, a4, a5, a6, a7, a8, a9, (upd a10 0 (nI k)), (upd a11 0 0), (upd a12 0 0), b13, b14, b15, b16)) : wpX_load post (-1, h, -1, p, a1, a2, a3, a4, a5, a6, a7, a8, a9, a10, a11, a12, a13, a14, a15, a16) 0 (nI k) :=
  ⟨pk_in 0 5 (by omega), nm_r cs_u0 ⟨pk_in 0 5 (by omega), nm_r cs_u0 ⟨pk_in 0 5 (by omega), nm_r cs_u0 (cs_new_h hk hq hp h9 (br_f (by decide) (cs_loadHome hk H)))⟩⟩⟩
theorem cs_load_l {post : St2 → Prop} {k q : Nat} (hk : k < 16) (hq : q < 3) (hp : p = nI q) (h9 : a9 (16 * q + k) = 0) (hl : ¬ a9 k = 0)
    (H : ∀ b13 b14 b15 b16 : Nat → Int32, (∀ j, j < 4 → b13 j = a5 (4 * k + j)) → post (0, h, -1, p, a1, a2, a3, a4, a5, a6, a7, a8, a9, (upd a10 0 (nI k)), (upd a11 0 0), (upd a12 0 0), b13, b14, b15, b16)) : wpX_load post (0, h, -1, p, a1, a2, a3, a4, a5, a6, a7, a8, a9, a10, a11, a12, a13, a14, a15, a16) 0 (nI k) :=
  ⟨pk_in 0 5 (by omega), nm_r cs_u0 ⟨pk_in 0 5 (by omega), nm_r cs_u0 ⟨pk_in 0 5 (by omega), nm_r cs_u0 (cs_new_l hk hq hp h9 hl (br_t (by decide) (nm_r (cs_z16 k) ⟨pk_in k 48 (by omega), pk_in 0 5 (by omega), fun b16 _ =>
    pk_loop (σ := (Nat → Int32) × (Nat → Int32) × (Nat → Int32)) (fun n i s => wX_load_62 post 0 (nI k) 0 h (-1) p n (nI i) a1 a2 a3 a4 a5 a6 a7 a8 a9 (upd a10 0 (nI k)) (upd a11 0 0) (upd a12 0 0) s.1 s.2.1 s.2.2 b16)
    (fun i s => ∀ j, j < i → s.1 j = a5 (4 * k + j)) 4 0 (a13, a14, a15) (by omega) (fun j hj => absurd hj (by omega))
    (fun n s hh => pk_le 4 4 (fun _ => H s.1 s.2.1 s.2.2 b16 hh) (fun z => absurd z (by omega)))
    (fun n i s hi hh hw => pk_le 4 i (fun z => absurd z (by omega)) (fun _ => ⟨pk_in (4 * k + i) 192 (by omega) (cs_i4 k i), pk_in i 20 (by omega) (cs_z4 i), nm_r (cs_uk i (cs_z4 i) (by omega))
      ⟨pk_in (4 * k + i) 192 (by omega) (cs_i4 k i), pk_in i 20 (by omega) (cs_z4 i), fun c14 _ =>
      ⟨pk_in (4 * k + i) 192 (by omega) (cs_i4 k i), pk_in i 20 (by omega) (cs_z4 i), fun c15 _ => nm_r (nI_1 i) (hw (upd s.1 i (a5 ((4 : Int32) * nI k + nI i).toNatClampNeg), c14, c15) (cs_fill (f := fun j => a5 (4 * k + j)) hh (by rw [cs_i4, nI_clamp (by omega)])))⟩⟩⟩))⟩)))⟩⟩⟩
theorem cs_ff_hit {post : Int32 → St2 → Prop} {x : Int32} (h0 : a10 0 = x) (H : post 0 (m, h, o, p, a1, a2, a3, a4, a5, a6, a7, a8, a9, a10, a11, a12, a13, a14, a15, a16)) : wpX_frameFor post (m, h, o, p, a1, a2, a3, a4, a5, a6, a7, a8, a9, a10, a11, a12, a13, a14, a15, a16) x :=
  ⟨1, br_f (by decide) ⟨pk_in 0 5 (by omega), br_t (by rw [cs_c0]; exact h0) H⟩⟩
theorem cs_neg : ∀ k, k < 16 → ¬ (-1 : Int32) = nI k := by decide +kernel
theorem cs_ff_miss {post : Int32 → St2 → Prop} {k : Nat} (hk : k < 16) (hn : ∀ j, j < 5 → a10 j = -1) (H : wX_frameFor_49 post (nI k) 0 (0 + 1) m 0 o p a1 a2 a3 a4 a5 a6 a7 a8 a9 a10 a11 a12 a13 a14 a15 a16) : wpX_frameFor post (m, 0, o, p, a1, a2, a3, a4, a5, a6, a7, a8, a9, a10, a11, a12, a13, a14, a15, a16) (nI k) :=
  pk_loop (σ := Unit) (fun n i _ => wX_frameFor_2 post (nI k) m 0 o p a1 a2 a3 a4 a5 a6 a7 a8 a9 a10 a11 a12 a13 a14 a15 a16 n (nI i)) (fun _ _ => True) 5 0 () (by omega) trivial
    (fun n _ _ => pk_le 5 5 (fun _ => br_f (by decide) H) (fun z => absurd z (by omega)))
    (fun n i _ hi _ hw => pk_le 5 i (fun z => absurd z (by omega)) (fun _ => ⟨pk_in i 5 hi, br_f (by rw [nI_clamp (by omega), hn i hi]; exact cs_neg k hk) (nm_r (nI_1 i) (hw () trivial))⟩))
theorem cs_ff_h {post : Int32 → St2 → Prop} {k q : Nat} (hk : k < 16) (hq : q < 3) (hp : p = nI q) (hn : ∀ j, j < 5 → a10 j = -1) (h9 : a9 (16 * q + k) = 0)
    (H : ∀ (h' : Int32) (b10 b13 b14 b15 b16 : Nat → Int32), b10 0 = nI k → post 0 (-1, h', -1, p, a1, a2, a3, a4, a5, a6, a7, a8, a9, b10, (upd a11 0 0), (upd a12 0 0), b13, b14, b15, b16)) : wpX_frameFor post (-1, 0, -1, p, a1, a2, a3, a4, a5, a6, a7, a8, a9, a10, a11, a12, a13, a14, a15, a16) (nI k) :=
  cs_ff_miss hk hn (cs_evict (hn 0 (by omega)) (cs_load_h hk hq hp h9 (fun b13 b14 b15 b16 => H _ _ b13 b14 b15 b16 pk_us)))
theorem cs_ff_l {post : Int32 → St2 → Prop} {k q : Nat} (hk : k < 16) (hq : q < 3) (hp : p = nI q) (hn : ∀ j, j < 5 → a10 j = -1) (h9 : a9 (16 * q + k) = 0) (hl : ¬ a9 k = 0)
    (H : ∀ (h' : Int32) (b10 b13 b14 b15 b16 : Nat → Int32), (∀ j, j < 4 → b13 j = a5 (4 * k + j)) → post 0 (0, h', -1, p, a1, a2, a3, a4, a5, a6, a7, a8, a9, b10, (upd a11 0 0), (upd a12 0 0), b13, b14, b15, b16)) : wpX_frameFor post (0, 0, -1, p, a1, a2, a3, a4, a5, a6, a7, a8, a9, a10, a11, a12, a13, a14, a15, a16) (nI k) :=
  cs_ff_miss hk hn (cs_evict (hn 0 (by omega)) (cs_load_l hk hq hp h9 hl (fun b13 b14 b15 b16 hb => H _ _ b13 b14 b15 b16 hb)))
/-! save, makeWritable -/
theorem cs_save {post : St2 → Prop} {k : Nat} (hk : k < 16) (hn : a10 0 = nI k)
    (H : ∀ b5 b6 b7 b8 : Nat → Int32, (∀ j, j < 4 → b5 (4 * k + j) = a13 j) → post (m, h, o, p, a1, a2, a3, a4, b5, b6, b7, b8, (upd a9 k 1), a10, a11, a12, a13, a14, a15, a16)) : wpX_save post (m, h, o, p, a1, a2, a3, a4, a5, a6, a7, a8, a9, a10, a11, a12, a13, a14, a15, a16) 0 0 :=
  ⟨pk_in 0 5 (by omega), nm_r (show a10 (0 : Int32).toNatClampNeg = nI k by rw [cs_c0, hn]) (nm_r (cs_z16 k) ⟨pk_in k 48 (by omega), nm_r (cs_uk k rfl (by omega)) ⟨pk_in 0 5 (by omega), pk_in k 48 (by omega), fun b8 _ =>
    pk_loop (σ := (Nat → Int32) × (Nat → Int32) × (Nat → Int32)) (fun n i s => wX_save_39 post 0 (nI k) m h o p n (nI i) a1 a2 a3 a4 s.1 s.2.1 s.2.2 b8 (upd a9 k 1) a10 a11 a12 a13 a14 a15 a16)
    (fun i s => ∀ j, j < i → s.1 (4 * k + j) = a13 j) 4 0 (a5, a6, a7) (by omega) (fun j hj => absurd hj (by omega))
    (fun n s hh => pk_le 4 4 (fun _ => H s.1 s.2.1 s.2.2 b8 hh) (fun z => absurd z (by omega)))
    (fun n i s hi hh hw => pk_le 4 i (fun z => absurd z (by omega)) (fun _ => ⟨pk_in i 20 (by omega) (cs_z4 i), pk_in (4 * k + i) 192 (by omega) (cs_i4 k i), nm_r (cs_uk (4 * k + i) (cs_i4 k i) (by omega))
      ⟨pk_in i 20 (by omega) (cs_z4 i), pk_in (4 * k + i) 192 (by omega) (cs_i4 k i), fun c6 _ =>
      ⟨pk_in i 20 (by omega) (cs_z4 i), pk_in (4 * k + i) 192 (by omega) (cs_i4 k i), fun c7 _ => nm_r (nI_1 i) (hw (upd s.1 (4 * k + i) (a13 ((4 : Int32) * 0 + nI i).toNatClampNeg), c6, c7) (cs_fillo hh (by rw [cs_z4, nI_clamp (by omega)])))⟩⟩⟩))⟩⟩)⟩
theorem cs_mw_0 {post : St2 → Prop} (hz : a12 0 = 0) (H : post (m, h, o, p, a1, a2, a3, a4, a5, a6, a7, a8, a9, a10, (upd a11 0 1), a12, a13, a14, a15, a16)) : wpX_makeWritable post (m, h, o, p, a1, a2, a3, a4, a5, a6, a7, a8, a9, a10, a11, a12, a13, a14, a15, a16) 0 :=
  ⟨pk_in 0 5 (by omega), br_t (by rw [cs_c0]; exact hz) ⟨pk_in 0 5 (by omega), nm_r cs_u0 H⟩⟩
theorem cs_mw_1 {post : St2 → Prop} {k : Nat} (hk : k < 16) (hn : a10 0 = nI k) (hz : a12 0 = 1)
    (H : ∀ b5 b6 b7 b8 b11 : Nat → Int32, (∀ j, j < 4 → b5 (4 * k + j) = a13 j) → post (m, h, 0, p, a1, a2, a3, a4, b5, b6, b7, b8, (upd a9 k 1), a10, b11, (upd a12 0 0), a13, a14, a15, a16)) : wpX_makeWritable post (m, h, 0, p, a1, a2, a3, a4, a5, a6, a7, a8, a9, a10, a11, a12, a13, a14, a15, a16) 0 :=
  ⟨pk_in 0 5 (by omega), br_f (by rw [cs_c0, hz]; decide) (cs_save hk hn (fun b5 b6 b7 b8 hb => ⟨pk_in 0 5 (by omega), nm_r cs_u0 ⟨pk_in 0 5 (by omega), fun c11 _ => ⟨pk_in 0 5 (by omega), fun d11 _ => H b5 b6 b7 b8 d11 hb⟩⟩⟩))⟩
end
end
section
/-! ===== the calls that the law makes ===== -/
theorem cs_nb0 : vp_nar .boolean 0 = 0 := by decide
theorem cs_nb1 : vp_nar .boolean 1 = 1 := by decide
theorem cs_nb {x : Int32} (hx : x = 0 ∨ x = 1) : vp_nar .boolean x = x := by
  rcases hx with e | e
  · rw [e]; exact cs_nb0
  · rw [e]; exact cs_nb1
theorem cs_fits1 {post : Int32 → Prop} {k t : Nat} (hk : k < 16) (ht : t < 4) (H : post 1) : wpX_fits post () (nI k) (nI t) :=
  pk_lt k 0 (fun z => absurd z (by omega)) (fun _ => pk_lt 15 k (fun z => absurd z (by omega)) (fun _ => pk_lt t 0 (fun z => absurd z (by omega)) (fun _ => pk_lt 3 t (fun z => absurd z (by omega)) (fun _ => H))))
section
variable {m h o p : Int32} {a1 a2 a3 a4 a5 a6 a7 a8 a9 a10 a11 a12 a13 a14 a15 a16 : Nat → Int32}
/-- snapshot in the store's first generation: the dirty frames are frozen -/
theorem cs_snap {post : Int32 → St2 → Prop} (h9 : ∀ j, j < 48 → a9 j = 0) (hd : ∀ j, j < 5 → a11 j = 0 ∨ a11 j = 1)
    (H : ∀ b9 b12 : Nat → Int32, (∀ j, j < 48 → b9 j = 0) → (∀ j, j < 5 → b12 j = a11 j) → post 0 (-1, h, 0, 1, a1, a2, a3, a4, a5, a6, a7, a8, b9, a10, a11, b12, a13, a14, a15, a16)) : wpX_snapshot post (-1, h, -1, 0, a1, a2, a3, a4, a5, a6, a7, a8, a9, a10, a11, a12, a13, a14, a15, a16) :=
  br_t (by decide) (pk_loop (fun n i s => wX_snapshot_11 post (-1) h (-1) 0 n (nI i) a1 a2 a3 a4 a5 a6 a7 a8 a9 a10 a11 s a13 a14 a15 a16)
    (fun i s => ∀ j, j < i → s j = a11 j) 5 0 a12 (by omega) (fun j hj => absurd hj (by omega))
    (fun n s hh => pk_le 5 5 (fun _ => cs_un_b (cs_clear (l := 1) (by omega) (fun b h1 h2 => H b s (fun j hj => by
        by_cases e : 16 ≤ j ∧ j < 32
        · exact h1 j (by omega) (by omega)
        · rw [h2 j (by omega)]
          exact h9 j hj) hh))) (fun z => absurd z (by omega)))
    (fun n i s hi hh hw => pk_le 5 i (fun z => absurd z (by omega)) (fun _ => ⟨pk_in i 5 hi, pk_in i 5 hi, nm_r (cs_uk i rfl (by omega)) (nm_r (nI_1 i) (hw _ (cs_fill hh (by rw [nI_clamp (by omega)]; exact cs_nb (hd i hi)))))⟩)))
theorem cs_snap_no {post : Int32 → St2 → Prop} (H : post (-1) (m, h, 0, p, a1, a2, a3, a4, a5, a6, a7, a8, a9, a10, a11, a12, a13, a14, a15, a16)) : wpX_snapshot post (m, h, 0, p, a1, a2, a3, a4, a5, a6, a7, a8, a9, a10, a11, a12, a13, a14, a15, a16) := br_f (by decide) H
/-- settle, with no frozen frame left and nothing settled before: the open log is the settled one -/
theorem cs_settle {post : Int32 → St2 → Prop} (hz : ∀ j, j < 5 → a12 j = 0) (H : post 0 (0, h, -1, p, a1, a2, a3, a4, a5, a6, a7, a8, a9, a10, a11, a12, a13, a14, a15, a16)) : wpX_settle post (-1, h, 0, p, a1, a2, a3, a4, a5, a6, a7, a8, a9, a10, a11, a12, a13, a14, a15, a16) :=
  br_t (by decide) (pk_loop (σ := Unit) (fun n i _ => wX_settle_11 post n (nI i) (-1) h 0 p a1 a2 a3 a4 a5 a6 a7 a8 a9 a10 a11 a12 a13 a14 a15 a16) (fun _ _ => True) 5 0 () (by omega) trivial
    (fun n _ _ => pk_le 5 5 (fun _ => br_f (by decide) H) (fun z => absurd z (by omega)))
    (fun n i _ hi _ hw => pk_le 5 i (fun z => absurd z (by omega)) (fun _ => ⟨pk_in i 5 hi, br_t (by rw [nI_clamp (by omega)]; exact hz i hi) (nm_r (nI_1 i) (hw () trivial))⟩)))
theorem cs_settle_no {post : Int32 → St2 → Prop} (H : post (-1) (m, h, -1, p, a1, a2, a3, a4, a5, a6, a7, a8, a9, a10, a11, a12, a13, a14, a15, a16)) : wpX_settle post (m, h, -1, p, a1, a2, a3, a4, a5, a6, a7, a8, a9, a10, a11, a12, a13, a14, a15, a16) := br_f (by decide) H
/-- crash, with log 0 settled -/
theorem cs_crash {post : St2 → Prop}
    (H : ∀ b9 b10 b11 b12 : Nat → Int32, (∀ j, 16 ≤ j → j < 32 → b9 j = 0) → (∀ j, j < 16 → b9 j = a9 j) → (∀ j, j < 5 → b10 j = -1) → post (0, 0, -1, 1, a1, a2, a3, a4, a5, a6, a7, a8, b9, b10, b11, b12, a13, a14, a15, a16)) : wpX_crash post (0, h, o, p, a1, a2, a3, a4, a5, a6, a7, a8, a9, a10, a11, a12, a13, a14, a15, a16) :=
  cs_restart (r := 1) (by omega) (fun q b10 b11 b12 hq => cs_un_c hq) (fun b9 b10 b11 b12 h1 h2 h3 => H b9 b10 b11 b12 (fun j g1 g2 => h1 j (by omega) (by omega)) (fun j hj => h2 j (by omega)) (fun j hj => (h3 j hj).1))
/-- the first write of the script's node -/
theorem cs_write_a {post : Int32 → St2 → Prop} {k t : Nat} {x : Int32} (hk : k < 16) (ht : t < 4) (hA : cs_A a9 a10 a11 a12)
    (H : ∀ (h' : Int32) (b10 b11 b12 b13 b14 b15 b16 : Nat → Int32), b10 0 = nI k → b11 0 = 1 → (∀ j, 0 < j → j < 5 → b11 j = 0) → b13 t = x → post 0 (-1, h', -1, 0, a1, a2, a3, a4, a5, a6, a7, a8, a9, b10, b11, b12, b13, b14, b15, b16)) :
    wpX_write post (-1, 0, -1, 0, a1, a2, a3, a4, a5, a6, a7, a8, a9, a10, a11, a12, a13, a14, a15, a16) (nI k) (nI t) x := by
  unfold wpX_write
  refine cs_fits1 hk ht (br_f (by decide) ?_)
  unfold wpX_put
  exact (cs_ff_h (q := 0) hk (by omega) rfl (fun j hj => (hA.2 j hj).1) (hA.1 _ (by omega)) (fun h' b10 b13 b14 b15 b16 hb => cs_mw_0 pk_us
    ⟨pk_in t 20 (by omega) (cs_z4 t), nm_r (cs_uk t (cs_z4 t) (by omega)) ⟨pk_in t 20 (by omega) (cs_z4 t), fun c14 _ => ⟨pk_in t 20 (by omega) (cs_z4 t), fun c15 _ =>
      H h' b10 _ _ _ c14 c15 b16 hb pk_us (fun j h0 hj => by rw [pk_un (by omega), pk_un (by omega)]; exact (hA.2 j hj).2.1) pk_us⟩⟩⟩))
/-- a write to the frame that holds the node, frozen: the open log keeps what it held -/
theorem cs_write_b {post : Int32 → St2 → Prop} {k t : Nat} {x y : Int32} (hk : k < 16) (ht : t < 4) (hn : a10 0 = nI k) (hz : a12 0 = 1) (hy : a13 t = y)
    (H : ∀ b5 b6 b7 b8 b9 b11 b12 b13 b14 b15 : Nat → Int32, b5 (4 * k + t) = y → b9 k = 1 → b12 0 = 0 → (∀ j, 0 < j → b12 j = a12 j) → b13 t = x → post 0 (m, h, 0, p, a1, a2, a3, a4, b5, b6, b7, b8, b9, a10, b11, b12, b13, b14, b15, a16)) :
    wpX_write post (m, h, 0, p, a1, a2, a3, a4, a5, a6, a7, a8, a9, a10, a11, a12, a13, a14, a15, a16) (nI k) (nI t) x := by
  unfold wpX_write
  refine cs_fits1 hk ht (br_f (by decide) ?_)
  unfold wpX_put
  exact (cs_ff_hit hn (cs_mw_1 hk hn hz (fun b5 b6 b7 b8 b11 hb =>
    ⟨pk_in t 20 (by omega) (cs_z4 t), nm_r (cs_uk t (cs_z4 t) (by omega)) ⟨pk_in t 20 (by omega) (cs_z4 t), fun c14 _ => ⟨pk_in t 20 (by omega) (cs_z4 t), fun c15 _ =>
      H b5 b6 b7 b8 _ b11 _ _ c14 c15 ((hb t ht).trans hy) pk_us pk_us (fun j h0 => pk_un (by omega)) pk_us⟩⟩⟩)))
/-- a write to the frame that holds the node, not frozen -/
theorem cs_write_c {post : Int32 → St2 → Prop} {k t : Nat} {x : Int32} (hk : k < 16) (ht : t < 4) (hn : a10 0 = nI k) (hz : a12 0 = 0)
    (H : ∀ b11 b13 b14 b15 : Nat → Int32, post 0 (m, h, o, p, a1, a2, a3, a4, a5, a6, a7, a8, a9, a10, b11, a12, b13, b14, b15, a16)) :
    wpX_write post (m, h, o, p, a1, a2, a3, a4, a5, a6, a7, a8, a9, a10, a11, a12, a13, a14, a15, a16) (nI k) (nI t) x := by
  unfold wpX_write
  refine cs_fits1 hk ht (br_f (by decide) ?_)
  unfold wpX_put
  exact (cs_ff_hit hn (cs_mw_0 hz
    ⟨pk_in t 20 (by omega) (cs_z4 t), fun c13 _ => ⟨pk_in t 20 (by omega) (cs_z4 t), fun c14 _ => ⟨pk_in t 20 (by omega) (cs_z4 t), fun c15 _ => H _ c13 c14 c15⟩⟩⟩))
/-- number, the node in its frame -/
theorem cs_number {post : Int32 → St2 → Prop} {k t : Nat} {x : Int32} (hk : k < 16) (ht : t < 4) (hn : a10 0 = nI k) (hx : a13 t = x) (H : post x (m, h, o, p, a1, a2, a3, a4, a5, a6, a7, a8, a9, a10, a11, a12, a13, a14, a15, a16)) : wpX_number post (m, h, o, p, a1, a2, a3, a4, a5, a6, a7, a8, a9, a10, a11, a12, a13, a14, a15, a16) (nI k) (nI t) := by
  unfold wpX_number
  refine cs_fits1 hk ht (br_f (by decide) ?_)
  unfold wpX_numberIn
  refine cs_ff_hit hn ⟨pk_in t 20 (by omega) (cs_z4 t), ?_⟩
  rw [cs_z4, nI_clamp (by omega), hx]
  exact H
/-- number behind the crash: out of the settled log -/
theorem cs_number_l {post : Int32 → St2 → Prop} {k t : Nat} {x : Int32} (hk : k < 16) (ht : t < 4) (hn : ∀ j, j < 5 → a10 j = -1) (h9 : a9 (16 + k) = 0) (hl : a9 k = 1) (hx : a5 (4 * k + t) = x)
    (H : ∀ u : St2, post x u) : wpX_number post (0, 0, -1, 1, a1, a2, a3, a4, a5, a6, a7, a8, a9, a10, a11, a12, a13, a14, a15, a16) (nI k) (nI t) := by
  unfold wpX_number
  refine cs_fits1 hk ht (br_f (by decide) ?_)
  unfold wpX_numberIn
  refine cs_ff_l (q := 1) hk (by omega) rfl hn h9 (by rw [hl]; decide) (fun h' b10 b13 b14 b15 b16 hb => ⟨pk_in t 20 (by omega) (cs_z4 t), ?_⟩)
  rw [cs_z4, nI_clamp (by omega), hb t ht, hx]
  exact H _
/-! where the script's node or slot doesn't fit -/
theorem cs_write_no {post : Int32 → St2 → Prop} {x0 x1 x : Int32} (hf : ∀ q : Int32 → Prop, q 0 → wpX_fits q () x0 x1) (H : post (-1) (m, h, o, p, a1, a2, a3, a4, a5, a6, a7, a8, a9, a10, a11, a12, a13, a14, a15, a16)) : wpX_write post (m, h, o, p, a1, a2, a3, a4, a5, a6, a7, a8, a9, a10, a11, a12, a13, a14, a15, a16) x0 x1 x := by
  unfold wpX_write
  exact hf _ (br_t rfl H)
theorem cs_number_no {post : Int32 → St2 → Prop} {x0 x1 : Int32} (hf : ∀ q : Int32 → Prop, q 0 → wpX_fits q () x0 x1) (H : post 0 (m, h, o, p, a1, a2, a3, a4, a5, a6, a7, a8, a9, a10, a11, a12, a13, a14, a15, a16)) : wpX_number post (m, h, o, p, a1, a2, a3, a4, a5, a6, a7, a8, a9, a10, a11, a12, a13, a14, a15, a16) x0 x1 := by
  unfold wpX_number
  exact hf _ (br_t rfl H)
end
end
section
/-! ===== the law ===== -/
section
variable {post : Int32 → St0 → Prop} {mc ms kc ks : Nat} {x0 x1 x2 x3 x4 : Int32} {a1 a2 a3 a4 a5 a6 a7 a8 a9 a10 a11 a12 a13 a14 a15 a16 : Nat → Int32}
theorem cs_bad (hf : ∀ q : Int32 → Prop, q 0 → wpX_fits q () x0 x1) (hA : cs_A a9 a10 a11 a12) (H : post 1 ()) : wL_lawOf_32 post mc ms x0 x1 x2 x3 x4 kc ks (-1) 0 (-1) 0 a1 a2 a3 a4 a5 a6 a7 a8 a9 a10 a11 a12 a13 a14 a15 a16 := by
  unfold wL_lawOf_32 wL_lawOf_33
  exact cs_write_no hf (br_t rfl (br_t rfl (cs_snap hA.1 (fun j hj => Or.inl (hA.2 j hj).2.1) (fun b9 b12 h9 h12 => br_t rfl
    (cs_write_no hf (br_t rfl (br_t rfl (cs_snap_no (br_t rfl (cs_settle (fun j hj => (h12 j hj).trans (hA.2 j hj).2.1) (br_t rfl
      (cs_number_no hf (br_t rfl (br_t rfl (cs_write_no hf (cs_crash (fun c9 c10 c11 c12 _ _ _ => cs_settle_no (br_t rfl
        (cs_number_no hf (br_t rfl (br_t rfl H)))))))))))))))))))))
theorem cs_good {k t : Nat} (hk : k < 16) (ht : t < 4) (hA : cs_A a9 a10 a11 a12) (H : post 1 ()) : wL_lawOf_33 post mc ms (nI k) (nI t) x2 x3 x4 1 kc ks (-1) 0 (-1) 0 a1 a2 a3 a4 a5 a6 a7 a8 a9 a10 a11 a12 a13 a14 a15 a16 :=
  have h1 : ¬ (1 : Int32) = 0 := by decide
  cs_write_a hk ht hA (fun h' b10 b11 b12 b13 b14 b15 b16 g10 g11 g11' g13 => br_f h1 (br_t rfl
    (cs_snap hA.1 (fun j hj => (Nat.eq_zero_or_pos j).elim (fun e => Or.inr (by rw [e]; exact g11)) (fun e => Or.inl (g11' j e hj))) (fun c9 c12 _ h12 => br_t rfl
    (cs_write_b hk ht g10 ((h12 0 (by omega)).trans g11) g13 (fun d5 d6 d7 d8 d9 d11 d12 d13 d14 d15 e5 e9 e12 e12' e13 => br_f h1 (br_t rfl
    (cs_snap_no (br_t rfl
    (cs_settle (fun j hj => (Nat.eq_zero_or_pos j).elim (fun e => by rw [e]; exact e12) (fun e => by rw [e12' j e, h12 j hj]; exact g11' j e hj)) (br_t rfl
    (cs_number hk ht g10 e13 (br_f h1 (br_t rfl
    (cs_write_c hk ht g10 e12 (fun i11 i13 i14 i15 =>
    cs_crash (fun j9 j10 j11 j12 y1 y2 y3 => cs_settle_no (br_t rfl
    (cs_number_l hk ht y3 (y1 _ (by omega) (by omega)) ((y2 k hk).trans e9) e5 (fun u => br_f h1 (br_t rfl H)))))))))))))))))))))
end
theorem cs_cell {post : Int32 → Prop} {L i : Nat} {xs : Nat → Int32} (hL : L ≤ 5) (hi : i < 5) (H : ∀ v, post v) : wpL_cellAt post L xs () (nI i) :=
  pk_le L i (fun _ => H _) (fun z => ⟨pk_in i L z, H _⟩)
theorem cs_lawOf {post : Int32 → St0 → Prop} {x0 x1 x2 x3 x4 : Int32} (H : post 1 ()) : wpL_lawOf post 17 980 () x0 x1 x2 x3 x4 :=
  ⟨by omega, by omega, 16, 960, by omega, by omega, cs_init (by omega) (by omega) (fun b1 b2 b3 b4 b5 b6 b7 b8 b9 b10 b11 b12 b13 b14 b15 b16 hA =>
    br_c (fun g => cs_bad (fun q hq => br_t g hq) hA H) (fun g0 =>
    br_c (fun g => cs_bad (fun q hq => br_f g0 (br_t g hq)) hA H) (fun g1 =>
    br_c (fun g => cs_bad (fun q hq => br_f g0 (br_f g1 (br_t g hq))) hA H) (fun g2 =>
    br_c (fun g => cs_bad (fun q hq => br_f g0 (br_f g1 (br_f g2 (br_t g hq)))) hA H) (fun g3 => by
      obtain ⟨k, hk, ek⟩ := nI_of2 (M := 15) (n := 15) (by decide) g0 (Int32.not_lt.mp g1)
      obtain ⟨t, ht, et⟩ := nI_of2 (M := 3) (n := 3) (by decide) g2 (Int32.not_lt.mp g3)
      subst ek et
      exact cs_good (by omega) (by omega) hA H)))))⟩
theorem i_vc (xs : Nat → Int32) (L : Nat) (hL : L ≤ 5) : wpL_law (fun r => r = 1) L xs :=
  cs_cell (i := 0) hL (by omega) (fun r1 => cs_cell (i := 1) hL (by omega) (fun r2 => cs_cell (i := 2) hL (by omega) (fun r3 => cs_cell (i := 3) hL (by omega) (fun r4 => cs_cell (i := 4) hL (by omega) (fun r5 =>
    ⟨17, 980, by omega, by omega, cs_lawOf rfl⟩)))))
end
