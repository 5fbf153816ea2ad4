section
/-! the static methods: whatever they answer, they end -/
theorem rn_has {post : Int32 → Prop} {a b : Int32} (H : ∀ r, post r) : wpX_has post () a b := ⟨fun _ => H 1, fun _ => H 0⟩
theorem rn_p62 {post : Int32 → Prop} {J : Int32 → Int32 → Int32 → Prop} {x0 x2 x3 x4 x5 z : Int32} (H : ∀ a b, J a b (x3 + 1)) : wX_closedUnderPairs_62 post J x0 x2 x3 x4 x5 z :=
  ⟨fun _ => nm_e (H _ _), fun _ => rn_has (fun _ => ⟨fun _ => nm_e (H _ _), fun _ => nm_e (H _ _)⟩)⟩
theorem rn_p100 {post : Int32 → Prop} {x2 z : Int32} (H : ∀ r, post r) : wX_closedUnderPairs_100 post x2 z := ⟨fun _ => H _, fun _ => H _⟩
theorem rn_pairs {post : Int32 → Prop} {x0 : Int32} (H : ∀ r, post r) : wpX_closedUnderPairs post () x0 :=
  pk_loop (σ := Int32 × Int32) (fun n i s => wX_closedUnderPairs_6 post x0 n s.1 s.2 (nI i)) (fun _ _ => True) 64 0 (1, 1) (by omega) trivial
    (fun n s _ => pk_le 64 64 (fun _ => ⟨fun _ => rn_p100 H, fun _ => rn_p100 H⟩) (fun z => absurd z (by omega)))
    (fun n i s hi _ hw =>
      have h1 : ∀ a b, wX_closedUnderPairs_6 post x0 n a b (nI i + 1) := fun a b => by
        rw [nI_1]
        exact hw (a, b) trivial
      pk_le 64 i (fun z => absurd z (by omega)) (fun _ => nm_e (nm_e (rn_has (fun _ => ⟨fun _ => nm_e (h1 _ _), fun _ => rn_has (fun _ => ⟨fun _ => nm_e (h1 _ _), fun _ => ⟨fun _ => rn_p62 h1, fun _ => rn_has (fun _ => ⟨fun _ => rn_p62 h1, fun _ => rn_p62 h1⟩)⟩⟩)⟩)))))
theorem rn_t97 {post : Int32 → Prop} {J : Int32 → Int32 → Int32 → Prop} {x0 x2 x3 x4 x5 x6 z : Int32} (H : ∀ a b, J a b (x3 + 1)) : wX_closedUnderTriples_97 post J x0 x2 x3 x4 x5 x6 z :=
  ⟨fun _ => nm_e (H _ _), fun _ => rn_has (fun _ => ⟨fun _ => nm_e (H _ _), fun _ => nm_e (H _ _)⟩)⟩
theorem rn_t139 {post : Int32 → Prop} {x2 z : Int32} (H : ∀ r, post r) : wX_closedUnderTriples_139 post x2 z := ⟨fun _ => H _, fun _ => H _⟩
theorem rn_triples {post : Int32 → Prop} {x0 : Int32} (H : ∀ r, post r) : wpX_closedUnderTriples post () x0 :=
  pk_loop (σ := Int32 × Int32) (fun n i s => wX_closedUnderTriples_6 post x0 n s.1 s.2 (nI i)) (fun _ _ => True) 512 0 (1, 1) (by omega) trivial
    (fun n s _ => pk_le 512 512 (fun _ => ⟨fun _ => rn_t139 H, fun _ => rn_t139 H⟩) (fun z => absurd z (by omega)))
    (fun n i s hi _ hw =>
      have h1 : ∀ a b, wX_closedUnderTriples_6 post x0 n a b (nI i + 1) := fun a b => by
        rw [nI_1]
        exact hw (a, b) trivial
      pk_le 512 i (fun z => absurd z (by omega)) (fun _ => nm_e (nm_e (nm_e (rn_has (fun _ => ⟨fun _ => nm_e (h1 _ _), fun _ => rn_has (fun _ => ⟨fun _ => nm_e (h1 _ _), fun _ => rn_has (fun _ => ⟨fun _ => nm_e (h1 _ _), fun _ => nm_e ⟨fun _ => rn_t97 h1, fun _ => rn_has (fun _ => ⟨fun _ => rn_t97 h1, fun _ => rn_t97 h1⟩)⟩⟩)⟩)⟩))))))
theorem rn_t33 {post : Int32 → Prop} {x0 x1 : Int32} (H : ∀ r, post r) : ∃ n, wX_traitsOf_33 post x0 x1 n 1 0 :=
  pk_loop (σ := Int32) (fun n i s => wX_traitsOf_33 post x0 x1 n s (nI i)) (fun _ _ => True) 8 0 1 (by omega) trivial
    (fun n s _ => pk_le 8 8 (fun _ => ⟨fun _ => H _, fun _ => H _⟩) (fun z => absurd z (by omega)))
    (fun n i s hi _ hw =>
      have h1 : ∀ a, wX_traitsOf_33 post x0 x1 n a (nI i + 1) := fun a => by
        rw [nI_1]
        exact hw a trivial
      pk_le 8 i (fun z => absurd z (by omega)) (fun _ => rn_has (fun _ => ⟨fun _ => nm_e (h1 _), fun _ => rn_has (fun _ => ⟨fun _ => nm_e (h1 _), fun _ => nm_e (h1 _)⟩)⟩)))
theorem rn_traits {post : Int32 → Prop} {x0 : Int32} (H : ∀ r, post r) : wpX_traitsOf post () x0 :=
  nm_e (rn_pairs (fun _ => nm_e (rn_triples (fun _ => nm_e (rn_t33 H)))))
/-! the count of a table's ones, as define and the law count them -/
def rn_cnt (t : Int32) : Nat → Int32
  | 0 => 0
  | i + 1 => rn_cnt t i + ((t >>> (nI i &&& 31)) &&& 1)
theorem rn_law (x : Int32) : ((((x &&& 1) + ((x >>> ((1 : Int32) &&& 31)) &&& 1)) + ((x >>> ((2 : Int32) &&& 31)) &&& 1)) + ((x >>> ((3 : Int32) &&& 31)) &&& 1)) + (((((x >>> ((4 : Int32) &&& 31)) &&& 1) + ((x >>> ((5 : Int32) &&& 31)) &&& 1)) + ((x >>> ((6 : Int32) &&& 31)) &&& 1)) + ((x >>> ((7 : Int32) &&& 31)) &&& 1)) = rn_cnt x 8 := by
  show _ = (((((((0 + ((x >>> ((0 : Int32) &&& 31)) &&& 1)) + ((x >>> ((1 : Int32) &&& 31)) &&& 1)) + ((x >>> ((2 : Int32) &&& 31)) &&& 1)) + ((x >>> ((3 : Int32) &&& 31)) &&& 1)) + ((x >>> ((4 : Int32) &&& 31)) &&& 1)) + ((x >>> ((5 : Int32) &&& 31)) &&& 1)) + ((x >>> ((6 : Int32) &&& 31)) &&& 1)) + ((x >>> ((7 : Int32) &&& 31)) &&& 1)
  rw [sb_shr0]
  simp only [Int32.zero_add, Int32.add_assoc]
theorem rn_ne : ∀ j, j < 256 → ¬ rn_cnt (nI j) 8 = -2 := by decide +kernel
theorem rn_ne2 {x : Int32} (h : ¬ x < 0) (h2 : x ≤ 255) : ¬ rn_cnt x 8 = -2 := by
  obtain ⟨j, hj, rfl⟩ := nI_of2 (M := 255) (n := 255) (by decide) h h2
  exact rn_ne j (by omega)
theorem rn_fill {s : Nat → Int32} {i k : Nat} {x : Int32} (hk : k = i) (h : ∀ j, j < i → s j = x) : ∀ j, j < i + 1 → upd s k x j = x := by
  intro j hj
  rw [hk]
  by_cases e : j = i
  · rw [e, pk_us]
  · rw [pk_un e]
    exact h j (by omega)
end
section
/-! the object's methods -/
def rn_In (n x y z : Int32) : Prop := (¬ x < 0 ∧ ¬ n ≤ x) ∧ (¬ y < 0 ∧ ¬ n ≤ y) ∧ (¬ z < 0 ∧ ¬ n ≤ z)
section
variable {fn fl fs fc ff : Int32} {a1 a2 a3 a4 a5 a6 a7 a8 a9 a10 a11 a12 a13 a14 : Nat → Int32} {Q : Int32 → St2 → Prop} {R : Int32 → Prop} {r : Nat} {x1 x2 x y z : Int32}
theorem rn_d59 (H : Q (rn_cnt x2 8) (fn, fl, fs, fc, ff, a1, a2, a3, a4, a5, a6, a7, a8, a9, a10, a11, a12, a13, a14)) : ∃ n, wX_define_59 Q x2 fn fl fs fc ff a1 a2 a3 a4 a5 a6 a7 a8 a9 a10 a11 a12 a13 a14 n 0 0 :=
  pk_loop (σ := Unit) (fun k i _ => wX_define_59 Q x2 fn fl fs fc ff a1 a2 a3 a4 a5 a6 a7 a8 a9 a10 a11 a12 a13 a14 k (rn_cnt x2 i) (nI i)) (fun _ _ => True) 8 0 () (by omega) trivial
    (fun _ _ _ => pk_le 8 8 (fun _ => H) (fun z => absurd z (by omega)))
    (fun k i _ hi _ hw => pk_le 8 i (fun z => absurd z (by omega)) (fun _ => nm_e (nm_r (nI_1 i) (hw () trivial))))
theorem rn_dA (hA : x1 < 0 ∨ ¬ x1 ≤ 5) (H : Q (-1) (fn, fl, fs, fc, ff, a1, a2, a3, a4, a5, a6, a7, a8, a9, a10, a11, a12, a13, a14)) : wpX_define Q (fn, fl, fs, fc, ff, a1, a2, a3, a4, a5, a6, a7, a8, a9, a10, a11, a12, a13, a14) x1 x2 :=
  br_c (fun _ => H) (fun h => br_f (hA.resolve_left h) H)
theorem rn_dB (hr : r < 6) (hB : x2 < 0 ∨ ¬ x2 ≤ 255) (H : Q (-2) (fn, fl, fs, fc, ff, a1, a2, a3, a4, a5, a6, a7, a8, a9, a10, a11, a12, a13, a14)) : wpX_define Q (fn, fl, fs, fc, ff, a1, a2, a3, a4, a5, a6, a7, a8, a9, a10, a11, a12, a13, a14) (nI r) x2 :=
  br_f (nI_pos (by omega)) (br_t (nI_le (b := 5) (by omega) (by decide)) (br_c (fun _ => H) (fun h => br_f (hB.resolve_left h) H)))
theorem rn_dU (hr : r < 6) (h0 : ¬ x2 < 0) (h1 : x2 ≤ 255) (hu : ¬ a3 r ≤ 0) (H : Q (-3) (fn, fl, fs, fc, ff, a1, a2, a3, a4, a5, a6, a7, a8, a9, a10, a11, a12, a13, a14)) : wpX_define Q (fn, fl, fs, fc, ff, a1, a2, a3, a4, a5, a6, a7, a8, a9, a10, a11, a12, a13, a14) (nI r) x2 :=
  br_f (nI_pos (by omega)) (br_t (nI_le (b := 5) (by omega) (by decide)) (br_f h0 (br_t h1 ⟨pk_in r 6 hr, br_f (by rw [nI_clamp (by omega)]; exact hu) H⟩)))
theorem rn_dC (hr : r < 6) (h0 : ¬ x2 < 0) (h1 : x2 ≤ 255) (hu : a3 r ≤ 0) (H : ∀ m, Q (rn_cnt x2 8) (fn, fl, fs, fc, ff, upd a1 r x2, m, a3, a4, a5, a6, a7, a8, a9, a10, a11, a12, a13, a14)) : wpX_define Q (fn, fl, fs, fc, ff, a1, a2, a3, a4, a5, a6, a7, a8, a9, a10, a11, a12, a13, a14) (nI r) x2 :=
  br_f (nI_pos (by omega)) (br_t (nI_le (b := 5) (by omega) (by decide)) (br_f h0 (br_t h1 ⟨pk_in r 6 hr, br_t (by rw [nI_clamp (by omega)]; exact hu) ⟨pk_in r 6 hr, nm_r (e' := upd a1 r x2) (by rw [nI_clamp (by omega)]) (rn_traits (fun _ => ⟨pk_in r 6 hr, nm_e (rn_d59 (H _))⟩))⟩⟩)))
theorem rn_tA (hA : x1 < 0 ∨ ¬ x1 ≤ 5) (H : R (-1)) : wpX_table R (fn, fl, fs, fc, ff, a1, a2, a3, a4, a5, a6, a7, a8, a9, a10, a11, a12, a13, a14) x1 :=
  br_c (fun _ => H) (fun h => br_f (hA.resolve_left h) H)
theorem rn_tN (hr : r < 6) (H : R (a1 r)) : wpX_table R (fn, fl, fs, fc, ff, a1, a2, a3, a4, a5, a6, a7, a8, a9, a10, a11, a12, a13, a14) (nI r) :=
  br_f (nI_pos (by omega)) (br_t (nI_le (b := 5) (by omega) (by decide)) ⟨pk_in r 6 hr, by rw [nI_clamp (by omega)]; exact H⟩)
theorem rn_var (h0 : ¬ (¬ x < 0 ∧ ¬ fn ≤ x) → R 0) (h1 : (¬ x < 0 ∧ ¬ fn ≤ x) → R 1) : wpX_isVar R (fn, fl, fs, fc, ff, a1, a2, a3, a4, a5, a6, a7, a8, a9, a10, a11, a12, a13, a14) x :=
  br_c (fun g => h0 (fun t => t.1 g)) (fun g => br_c (fun k => h0 (fun t => t.2 k)) (fun k => h1 ⟨g, k⟩))
theorem rn_rA (hA : x1 < 0 ∨ ¬ x1 ≤ 5) (H : Q (-1) (fn, fl, fs, fc, ff, a1, a2, a3, a4, a5, a6, a7, a8, a9, a10, a11, a12, a13, a14)) : wpX_require Q (fn, fl, fs, fc, ff, a1, a2, a3, a4, a5, a6, a7, a8, a9, a10, a11, a12, a13, a14) x1 x y z :=
  br_c (fun _ => H) (fun h => br_f (hA.resolve_left h) H)
theorem rn_rO (hr : r < 6) (hO : ¬ rn_In fn x y z) (H : Q (-2) (fn, fl, fs, fc, ff, a1, a2, a3, a4, a5, a6, a7, a8, a9, a10, a11, a12, a13, a14)) : wpX_require Q (fn, fl, fs, fc, ff, a1, a2, a3, a4, a5, a6, a7, a8, a9, a10, a11, a12, a13, a14) (nI r) x y z :=
  br_f (nI_pos (by omega)) (br_t (nI_le (b := 5) (by omega) (by decide)) (rn_var (fun _ => br_t rfl H) (fun k1 => br_f (by decide) (rn_var (fun _ => br_t rfl H) (fun k2 => br_f (by decide) (rn_var (fun _ => br_t rfl H) (fun k3 => absurd ⟨k1, k2, k3⟩ hO)))))))
theorem rn_rI (hr : r < 6) (hI : rn_In fn x y z) (H : ∀ b3 b4 b5 b6 b7 : Nat → Int32, b3 r = a3 r + 1 → b4 0 = nI r → Q 0 (fn, 1, fs, fc, ff, a1, a2, b3, b4, b5, b6, b7, a8, a9, a10, a11, a12, a13, a14)) : wpX_require Q (fn, 0, fs, fc, ff, a1, a2, a3, a4, a5, a6, a7, a8, a9, a10, a11, a12, a13, a14) (nI r) x y z := by
  have H1 : ∀ b5 b6 b7 : Nat → Int32, Q ((1 : Int32) - 1) (fn, 1, fs, fc, ff, a1, a2, upd a3 (nI r).toNatClampNeg (a3 (nI r).toNatClampNeg + 1), upd a4 (0 : Int32).toNatClampNeg (nI r), b5, b6, b7, a8, a9, a10, a11, a12, a13, a14) := by
    intro b5 b6 b7
    rw [show (1 : Int32) - 1 = 0 from by decide]
    refine H _ _ _ _ _ ?_ ?_
    · rw [nI_clamp (by omega), pk_us]
    · rw [sb_cl0, pk_us]
  exact br_f (nI_pos (by omega)) (br_t (nI_le (b := 5) (by omega) (by decide)) (rn_var (fun g => absurd hI.1 g) (fun _ => br_f (by decide) (rn_var (fun g => absurd hI.2.1 g) (fun _ => br_f (by decide) (rn_var (fun g => absurd hI.2.2 g) (fun _ => br_f (by decide) (br_f (by decide) ⟨pk_in 0 20 (by omega), nm_e ⟨pk_in 0 20 (by omega), nm_e ⟨pk_in 0 20 (by omega), nm_e ⟨pk_in 0 20 (by omega), nm_e ⟨pk_in r 6 hr, pk_in r 6 hr, nm_e (nm_r (e' := 1) (by decide) (H1 _ _ _))⟩⟩⟩⟩⟩))))))))
theorem rn_x0 (H : Q (-1) (fn, 0, fs, fc, ff, a1, a2, a3, a4, a5, a6, a7, a8, a9, a10, a11, a12, a13, a14)) : wpX_retract Q (fn, 0, fs, fc, ff, a1, a2, a3, a4, a5, a6, a7, a8, a9, a10, a11, a12, a13, a14) 0 :=
  br_f (by decide) (br_f (by decide) H)
theorem rn_x1 (hr : r < 6) (h4 : a4 0 = nI r) (H : ∀ b3, Q (nI r) (fn, 0, fs, fc, ff, a1, a2, b3, a4, a5, a6, a7, a8, a9, a10, a11, a12, a13, a14)) : wpX_retract Q (fn, 1, fs, fc, ff, a1, a2, a3, a4, a5, a6, a7, a8, a9, a10, a11, a12, a13, a14) 0 :=
  br_f (by decide) (br_t (by decide) ⟨pk_in 0 20 (by omega), nm_r (e' := nI r) (by rw [sb_cl0]; exact h4) (nm_r (e' := 1) (by decide) ⟨1, br_t (by decide) (nm_r (e' := 0) (by decide) ⟨pk_in r 6 hr, pk_in r 6 hr, nm_e (H _)⟩)⟩)⟩)
end
/-! the constructor -/
section
variable {fn fl fs fc ff p0 : Int32} {a1 a2 a3 a4 a5 a6 a7 a8 a9 a10 a11 a12 a13 a14 : Nat → Int32} {P : St2 → Prop} {mc ms kc ks : Nat}
theorem rn_178 (H : ∀ b, P (fn, fl, -1, fc, ff, a1, a2, a3, a4, a5, a6, a7, b, a9, a10, a11, a12, a13, a14)) : ∃ n, wX_init_178 P mc ms kc ks fn fl fs fc ff n 0 a1 a2 a3 a4 a5 a6 a7 a8 a9 a10 a11 a12 a13 a14 :=
  pk_loop (σ := Nat → Int32) (fun n i s => wX_init_178 P mc ms kc ks fn fl fs fc ff n (nI i) a1 a2 a3 a4 a5 a6 a7 s a9 a10 a11 a12 a13 a14) (fun _ _ => True) 8 0 a8 (by omega) trivial
    (fun n s _ => pk_le 8 8 (fun _ => H s) (fun z => absurd z (by omega)))
    (fun n i s hi _ hw => pk_le 8 i (fun z => absurd z (by omega)) (fun _ => ⟨pk_in i 8 hi, nm_e (nm_r (nI_1 i) (hw _ trivial))⟩))
theorem rn_147 (H : ∀ b1 b2 b8, (∀ j, j < 6 → b1 j = 255) → P (fn, fl, -1, fc, ff, b1, b2, a3, a4, a5, a6, a7, b8, a9, a10, a11, a12, a13, a14)) : ∃ n, wX_init_147 P mc ms kc ks fn fl fs fc ff n 0 a1 a2 a3 a4 a5 a6 a7 a8 a9 a10 a11 a12 a13 a14 :=
  pk_loop (σ := (Nat → Int32) × (Nat → Int32)) (fun n i s => wX_init_147 P mc ms kc ks fn fl fs fc ff n (nI i) s.1 s.2 a3 a4 a5 a6 a7 a8 a9 a10 a11 a12 a13 a14) (fun i s => ∀ j, j < i → s.1 j = 255) 6 0 (a1, a2) (by omega) (fun j hj => absurd hj (by omega))
    (fun n s h => pk_le 6 6 (fun _ => rn_178 (fun b => H s.1 s.2 b h)) (fun z => absurd z (by omega)))
    (fun n i s hi h hw => pk_le 6 i (fun z => absurd z (by omega)) (fun _ => ⟨pk_in i 6 hi, nm_e ⟨pk_in i 6 hi, nm_e (nm_r (nI_1 i) (hw (_, _) (rn_fill (nI_clamp (by omega)) h)))⟩⟩))
theorem rn_127 {w n : Int32} (hn : (w ≤ 8 ∧ n = w) ∨ (¬ w ≤ 8 ∧ n = 8)) (H : ∀ b1 b2 b8, (∀ j, j < 6 → b1 j = 255) → P (n, fl, -1, fc, ff, b1, b2, a3, a4, a5, a6, a7, b8, a9, a10, a11, a12, a13, a14)) : wX_init_127 P mc ms w kc ks fn fl fs fc ff a1 a2 a3 a4 a5 a6 a7 a8 a9 a10 a11 a12 a13 a14 := by
  rcases hn with ⟨h, rfl⟩ | ⟨h, rfl⟩
  · exact br_t h (rn_147 H)
  · exact br_f h (rn_147 H)
theorem rn_init {w n : Int32} (hm : 14 ≤ mc) (hs : 226 ≤ ms) (hw : (2 ≤ p0 ∧ w = p0) ∨ (¬ 2 ≤ p0 ∧ w = 2)) (hn : (w ≤ 8 ∧ n = w) ∨ (¬ w ≤ 8 ∧ n = 8))
    (H : ∀ b1 b2 b8, (∀ j, j < 6 → b1 j = 255) → P (n, fl, -1, fc, ff, b1, b2, (fun _ => 0), (fun _ => 0), (fun _ => 0), (fun _ => 0), (fun _ => 0), b8, (fun _ => 0), (fun _ => 0), (fun _ => 0), (fun _ => 0), (fun _ => 0), (fun _ => 0))) : wpX_init P mc ms (fn, fl, fs, fc, ff) p0 := by
  refine ⟨by omega, by omega, by omega, by omega, by omega, by omega, by omega, by omega, by omega, by omega, by omega, by omega, by omega, by omega, by omega, by omega, by omega, by omega, by omega, by omega, by omega, by omega, by omega, by omega, by omega, by omega, by omega, by omega, ?_⟩
  rcases hw with ⟨h, rfl⟩ | ⟨h, rfl⟩
  · exact br_t h (rn_127 hn H)
  · exact br_f h (rn_127 hn H)
end
end
section
/-! the law, from its end -/
section
variable {post : Int32 → St0 → Prop} {mc ms kc ks r : Nat} {fn fl fs fc ff x1 x2 x3 x4 x5 x7 x8 x9 x11 z0 z1 : Int32} {a1 a2 a3 a4 a5 a6 a7 a8 a9 a10 a11 a12 a13 a14 : Nat → Int32}
theorem rn_314a (hp : post 1 ()) (hd : ∀ Q : Int32 → St2 → Prop, (∀ b1 b2, Q z0 (fn, 0, fs, fc, ff, b1, b2, a3, a4, a5, a6, a7, a8, a9, a10, a11, a12, a13, a14)) → wpX_define Q (fn, 0, fs, fc, ff, a1, a2, a3, a4, a5, a6, a7, a8, a9, a10, a11, a12, a13, a14) x1 x2) (hx : ¬ x11 = 0) : wL_lawOf_314 post mc ms x1 x2 x11 z0 kc ks fn 0 fs fc ff a1 a2 a3 a4 a5 a6 a7 a8 a9 a10 a11 a12 a13 a14 :=
  hd _ (fun b1 b2 => br_t rfl (rn_x0 (br_f hx (br_t rfl hp))))
theorem rn_314b (hp : post 1 ()) (hr : r < 6) (h4 : a4 0 = nI r) (hd : ∀ Q : Int32 → St2 → Prop, Q z0 (fn, 1, fs, fc, ff, a1, a2, a3, a4, a5, a6, a7, a8, a9, a10, a11, a12, a13, a14) → wpX_define Q (fn, 1, fs, fc, ff, a1, a2, a3, a4, a5, a6, a7, a8, a9, a10, a11, a12, a13, a14) (nI r) x2) (hx : x11 = 0) : wL_lawOf_314 post mc ms (nI r) x2 x11 z0 kc ks fn 1 fs fc ff a1 a2 a3 a4 a5 a6 a7 a8 a9 a10 a11 a12 a13 a14 :=
  hd _ (br_t rfl (rn_x1 hr h4 (fun b3 => br_t hx (br_t rfl hp))))
theorem rn_241A (hp : post 1 ()) (hA : x1 < 0 ∨ ¬ x1 ≤ 5) : wL_lawOf_241 post mc ms x1 x2 x3 x4 x5 0 x9 (-1) kc ks fn 0 fs fc ff a1 a2 a3 a4 a5 a6 a7 a8 a9 a10 a11 a12 a13 a14 :=
  rn_rA hA (br_t rfl (br_f (by decide) (br_t rfl (br_t rfl (rn_314a hp (fun Q h => rn_dA hA (h _ _)) (by decide))))))
theorem rn_241O (hp : post 1 ()) (hr : r < 6) (hO : ¬ rn_In fn x3 x4 x5) (hd : ∀ Q : Int32 → St2 → Prop, (∀ b1 b2, Q x9 (fn, 0, fs, fc, ff, b1, b2, a3, a4, a5, a6, a7, a8, a9, a10, a11, a12, a13, a14)) → wpX_define Q (fn, 0, fs, fc, ff, a1, a2, a3, a4, a5, a6, a7, a8, a9, a10, a11, a12, a13, a14) (nI r) x2) : wL_lawOf_241 post mc ms (nI r) x2 x3 x4 x5 1 x9 (-2) kc ks fn 0 fs fc ff a1 a2 a3 a4 a5 a6 a7 a8 a9 a10 a11 a12 a13 a14 :=
  rn_rO hr hO (br_t rfl (br_f (by decide) (br_t rfl (br_f (by decide) (br_c (fun e => rn_314a hp (by rw [← e]; exact hd) (by decide)) (fun _ => br_f (by decide) (rn_314a hp hd (by decide))))))))
theorem rn_241I (hp : post 1 ()) (hr : r < 6) (hI : rn_In fn x3 x4 x5) (h3 : a3 r = 0) (hd : (x9 = -2 ∧ (x2 < 0 ∨ ¬ x2 ≤ 255)) ∨ (¬ x9 = -2 ∧ ¬ x2 < 0 ∧ x2 ≤ 255)) : wL_lawOf_241 post mc ms (nI r) x2 x3 x4 x5 1 x9 0 kc ks fn 0 fs fc ff a1 a2 a3 a4 a5 a6 a7 a8 a9 a10 a11 a12 a13 a14 := by
  refine rn_rI hr hI (fun b3 b4 b5 b6 b7 e3 e4 => br_t rfl (br_t rfl (br_t rfl (br_f (by decide) ?_))))
  rcases hd with ⟨e, hB⟩ | ⟨e, g0, g1⟩
  · exact br_t e (rn_314b hp hr e4 (fun Q h => rn_dB hr hB h) rfl)
  · exact br_f e (br_t rfl (rn_314b hp hr e4 (fun Q h => rn_dU hr g0 g1 (by rw [e3, h3]; decide) h) rfl))
theorem rn_175 (h : z1 = z0) (h0 : ¬ rn_In x7 x3 x4 x5 → wL_lawOf_219 post mc ms x1 x2 x3 x4 x5 x8 x9 0 kc ks fn fl fs fc ff a1 a2 a3 a4 a5 a6 a7 a8 a9 a10 a11 a12 a13 a14) (h1 : rn_In x7 x3 x4 x5 → wL_lawOf_219 post mc ms x1 x2 x3 x4 x5 x8 x9 1 kc ks fn fl fs fc ff a1 a2 a3 a4 a5 a6 a7 a8 a9 a10 a11 a12 a13 a14) : wL_lawOf_175 post mc ms x1 x2 x3 x4 x5 x7 x8 x9 z0 z1 kc ks fn fl fs fc ff a1 a2 a3 a4 a5 a6 a7 a8 a9 a10 a11 a12 a13 a14 :=
  br_t h (br_c (fun g => h0 (fun t => t.1.1 g)) (fun g1 => br_c (fun g => h0 (fun t => t.1.2 g)) (fun g2 => br_c (fun g => h0 (fun t => t.2.1.1 g)) (fun g3 => br_c (fun g => h0 (fun t => t.2.1.2 g)) (fun g4 => br_c (fun g => h0 (fun t => t.2.2.1 g)) (fun g5 => br_c (fun g => h0 (fun t => t.2.2.2 g)) (fun g6 => h1 ⟨⟨g1, g2⟩, ⟨g3, g4⟩, ⟨g5, g6⟩⟩)))))))
theorem rn_123A (hp : post 1 ()) (hA : x1 < 0 ∨ ¬ x1 ≤ 5) : wL_lawOf_123 post mc ms x1 x2 x3 x4 x5 x7 0 x9 kc ks fn 0 fs fc ff a1 a2 a3 a4 a5 a6 a7 a8 a9 a10 a11 a12 a13 a14 :=
  rn_dA hA (br_t rfl (br_t rfl (rn_tA hA (br_t rfl (rn_175 rfl (fun _ => br_t rfl (rn_241A hp hA)) (fun _ => br_t rfl (rn_241A hp hA)))))))
theorem rn_123B (hp : post 1 ()) (hr : r < 6) (hB : x2 < 0 ∨ ¬ x2 ≤ 255) (h1 : a1 r = 255) (h3 : a3 r = 0) : wL_lawOf_123 post mc ms (nI r) x2 x3 x4 x5 fn 1 (-2) kc ks fn 0 fs fc ff a1 a2 a3 a4 a5 a6 a7 a8 a9 a10 a11 a12 a13 a14 :=
  rn_dB hr hB (br_f (by decide) (br_t rfl (rn_tN hr (br_f (by decide) (br_t rfl (rn_175 h1
    (fun hO => br_f (by decide) (br_t rfl (rn_241O hp hr hO (fun Q h => rn_dB hr hB (h _ _)))))
    (fun hI => br_f (by decide) (br_f (by decide) (rn_241I hp hr hI h3 (Or.inl ⟨rfl, hB⟩))))))))))
theorem rn_123C (hp : post 1 ()) (hr : r < 6) (g0 : ¬ x2 < 0) (g1 : x2 ≤ 255) (h3 : a3 r = 0) : wL_lawOf_123 post mc ms (nI r) x2 x3 x4 x5 fn 1 (rn_cnt x2 8) kc ks fn 0 fs fc ff a1 a2 a3 a4 a5 a6 a7 a8 a9 a10 a11 a12 a13 a14 :=
  have hu : a3 r ≤ 0 := by rw [h3]; decide
  rn_dC hr g0 g1 hu (fun m => br_f (by decide) (br_t rfl (rn_tN hr (br_f (by decide) (br_f (rn_ne2 g0 g1) (rn_175 pk_us
    (fun hO => br_f (by decide) (br_t rfl (rn_241O hp hr hO (fun Q h => rn_dC hr g0 g1 hu (fun _ => h _ _)))))
    (fun hI => br_f (by decide) (br_f (by decide) (rn_241I hp hr hI h3 (Or.inr ⟨rn_ne2 g0 g1, g0, g1⟩))))))))))
theorem rn_47A (hp : post 1 ()) (hA : x1 < 0 ∨ ¬ x1 ≤ 5) : wL_lawOf_47 post mc ms x1 x2 x3 x4 x5 x7 0 kc ks fn 0 fs fc ff a1 a2 a3 a4 a5 a6 a7 a8 a9 a10 a11 a12 a13 a14 :=
  br_c (fun _ => rn_123A hp hA) (fun _ => br_c (fun _ => rn_123A hp hA) (fun _ => nm_e (nm_e (rn_123A hp hA))))
theorem rn_47N (hp : post 1 ()) (hr : r < 6) (h1 : a1 r = 255) (h3 : a3 r = 0) : wL_lawOf_47 post mc ms (nI r) x2 x3 x4 x5 fn 1 kc ks fn 0 fs fc ff a1 a2 a3 a4 a5 a6 a7 a8 a9 a10 a11 a12 a13 a14 :=
  br_c (fun g => rn_123B hp hr (Or.inl g) h1 h3) (fun g0 => br_c (fun g => rn_123B hp hr (Or.inr (Int32.not_le.mpr g)) h1 h3) (fun g => nm_e (nm_r (rn_law x2) (rn_123C hp hr g0 (Int32.not_lt.mp g) h3))))
theorem rn_33 (hp : post 1 ()) (h1 : ∀ j, j < 6 → a1 j = 255) (h3 : ∀ j, a3 j = 0) : wL_lawOf_33 post mc ms x1 x2 x3 x4 x5 fn kc ks fn 0 fs fc ff a1 a2 a3 a4 a5 a6 a7 a8 a9 a10 a11 a12 a13 a14 := by
  refine br_c (fun g => rn_47A hp (Or.inl g)) (fun g0 => br_c (fun g => rn_47A hp (Or.inr (Int32.not_le.mpr g))) (fun g => ?_))
  obtain ⟨r, hr, rfl⟩ := nI_of2 (M := 5) (n := 5) (by decide) g0 (Int32.not_lt.mp g)
  exact rn_47N hp (by omega) (h1 r (by omega)) (h3 r)
theorem rn_22 {w n : Int32} (hp : post 1 ()) (hn : (w ≤ 8 ∧ n = w) ∨ (¬ w ≤ 8 ∧ n = 8)) (h1 : ∀ j, j < 6 → a1 j = 255) (h3 : ∀ j, a3 j = 0) : wL_lawOf_22 post mc ms x1 x2 x3 x4 x5 w kc ks n 0 fs fc ff a1 a2 a3 a4 a5 a6 a7 a8 a9 a10 a11 a12 a13 a14 := by
  rcases hn with ⟨h, rfl⟩ | ⟨h, rfl⟩
  · exact br_t h (rn_33 hp h1 h3)
  · exact br_f h (rn_33 hp h1 h3)
theorem rn_lawOf {p0 p1 p2 p3 p4 p5 : Int32} (hp : post 1 ()) (hm : 15 ≤ mc) (hs : 245 ≤ ms) : wpL_lawOf post mc ms () p0 p1 p2 p3 p4 p5 := by
  refine ⟨by omega, by omega, 14, 226, by omega, by omega, ?_⟩
  have N : ∀ w : Int32, ∃ n, (w ≤ 8 ∧ n = w) ∨ (¬ w ≤ 8 ∧ n = 8) := fun w => by
    by_cases h : w ≤ 8
    · exact ⟨w, Or.inl ⟨h, rfl⟩⟩
    · exact ⟨8, Or.inr ⟨h, rfl⟩⟩
  by_cases h : 2 ≤ p0
  · obtain ⟨n, hn⟩ := N p0
    exact rn_init (by omega) (by omega) (Or.inl ⟨h, rfl⟩) hn (fun b1 b2 b8 hb => br_t h (rn_22 hp hn hb (fun _ => rfl)))
  · obtain ⟨n, hn⟩ := N 2
    exact rn_init (by omega) (by omega) (Or.inr ⟨h, rfl⟩) hn (fun b1 b2 b8 hb => br_f h (rn_22 hp hn hb (fun _ => rfl)))
end
theorem rn_cell {post : Int32 → Prop} {L : Nat} {xs : Nat → Int32} {k : Nat} {p : Int32} (hL : L ≤ 6) (hk : k < 6) (hp : p = nI k) (H : ∀ r, post r) : wpL_cellAt post L xs () p :=
  pk_le L k (fun _ => H _) (fun z => ⟨pk_in k L z hp, H _⟩) (hy := hp)
theorem i_vc (xs : Nat → Int32) (L : Nat) (hL : L ≤ 6) : wpL_law (fun r => r = 1) L xs :=
  rn_cell (k := 0) hL (by decide) rfl (fun _ => rn_cell (k := 1) hL (by decide) rfl (fun _ => rn_cell (k := 2) hL (by decide) rfl (fun _ => rn_cell (k := 3) hL (by decide) rfl (fun _ => rn_cell (k := 4) hL (by decide) rfl (fun _ => rn_cell (k := 5) hL (by decide) rfl (fun _ => ⟨150, 2384, by omega, by omega, rn_lawOf rfl (by omega) (by omega)⟩))))))
end
