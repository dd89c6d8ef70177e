section
/-! bits of 0 and 1; bringIn with k = 0; held over a set of no edge or of edge 0 alone -/
theorem fp_bit : ∀ i, i < 17 → ∀ b, b < 2 → nI (min i b) + ((nI b >>> (nI i &&& 31)) &&& 1) = nI (min (i + 1) b) := by decide +kernel
theorem fp_all : ∀ b, b < 2 → ((1 : Int32) <<< (nI b &&& 31)) - 1 = nI b := by decide +kernel
theorem fp_b2 {b : Nat} (hb : b < 2) : b = 0 ∨ b = 1 := by omega
/-- no k at 0 or above, other than 0, lies below a count of 0 or 1 -/
theorem fp_klt {b : Nat} {k x : Int32} (hb : b < 2) (hk : ¬ k < 0) (h0 : ¬ k = 0) (hx : x = nI b) : ¬ k < x := by
  intro h
  rw [hx] at h
  have h1 := Int32.lt_iff_toInt_lt.mp h
  rw [nI_toInt (show b < 2 ^ 31 by omega)] at h1
  have h2 : ¬ k.toInt < 0 := fun z => hk (Int32.lt_iff_toInt_lt.mpr z)
  exact h0 (Int32.toInt_inj.mp (show k.toInt = (0 : Int32).toInt by rw [show (0 : Int32).toInt = 0 by decide]; omega))
theorem fp_n0 {b : Nat} {x : Int32} (hb : b < 2) (hx : x = nI b) (h : ¬ (0 : Int32) < x) : x = 0 := by
  rcases fp_b2 hb with e | e
  · subst e
    exact hx
  · subst e
    rw [hx] at h
    exact absurd (by decide) h
section
variable {m c t p : Int32} {a1 a2 a3 a4 a5 a6 a7 a8 a9 : Nat → Int32}
theorem fp_34 {post : Int32 → St2 → Prop} (H : post 0 (m, c, t, 1, a1, a2, a3, a4, a5, a6, a7, a8, a9)) :
    ∃ n, wX_bringIn_34 post 0 n 0 m c t 1 a1 a2 a3 a4 a5 a6 a7 a8 a9 :=
  ⟨2, br_f (by decide) (br_f (by decide) ⟨pk_in 0 17 (by decide), nm_e ⟨1, br_t (by decide) (nm_r (show (0 : Int32) + 1 = 1 by decide) (br_t (by decide) H))⟩⟩)⟩
theorem fp_reach0 {post : St2 → Prop} {i : Nat} {x : Int32} (hi : i < 17) (H : ∀ a4 a5 a6, post (m, c, t, 1, a1, a2, a3, a4, a5, a6, a7, a8, a9)) :
    wpX_reach post (m, c, t, 0, a1, a2, a3, a4, a5, a6, a7, a8, a9) (nI i) x :=
  ⟨pk_in i 17 hi, nm_e ⟨pk_in i 17 hi, nm_e ⟨pk_in 0 17 (by decide), nm_e (nm_r (show (0 : Int32) + 1 = 1 by decide) (H _ _ _))⟩⟩⟩
theorem fp_bring {post : Int32 → St2 → Prop} {i : Nat} (hi : i < 17) (H : ∀ p a4 a5 a6, post 0 (m, c, t, p, a1, a2, a3, a4, a5, a6, a7, a8, a9)) :
    wpX_bringIn post (m, c, t, p, a1, a2, a3, a4, a5, a6, a7, a8, a9) (nI i) 0 :=
  pk_loop (fun n j s => wX_bringIn_2 post (nI i) 0 m c t p n (nI j) a1 a2 a3 s a5 a6 a7 a8 a9) (fun _ _ => True) 17 0 a4 (by omega) trivial
    (fun n s _ => pk_lt 16 17 (fun _ => fp_reach0 hi (fun b4 b5 b6 => fp_34 (H _ _ _ _))) (fun z => absurd z (by omega)))
    (fun n j s hj _ hw => pk_lt 16 j (fun z => absurd z (by omega)) (fun _ => ⟨pk_in j 17 hj, nm_e (nm_r (nI_1 j) (hw _ trivial))⟩))
theorem fp_53 {post : Int32 → St2 → Prop} {x1 : Int32} (H : ∀ p a4 a5 a6, post 0 (m, c, t, p, a1, a2, a3, a4, a5, a6, a7, a8, a9)) :
    ∃ n, wX_held_53 post x1 0 n 0 0 m c t p a1 a2 a3 a4 a5 a6 a7 a8 a9 :=
  pk_loop (σ := Int32 × (Nat → Int32) × (Nat → Int32) × (Nat → Int32))
    (fun n i s => wX_held_53 post x1 0 n 0 (nI i) m c t s.1 a1 a2 a3 s.2.1 s.2.2.1 s.2.2.2 a7 a8 a9) (fun _ _ => True) 17 0 (p, a4, a5, a6) (by omega) trivial
    (fun n s _ => pk_lt 16 17 (fun _ => H _ _ _ _) (fun z => absurd z (by omega)))
    (fun n i s hi _ hw => pk_lt 16 i (fun z => absurd z (by omega)) (fun _ =>
      br_c (fun _ => fp_bring hi (fun q b4 b5 b6 => br_t rfl (nm_r (nI_1 i) (hw (q, b4, b5, b6) trivial)))) (fun _ => nm_r (nI_1 i) (hw s trivial))))
/-- held over the set b (0: no edge, 1: edge 0 alone): b, but 0 for no forest -/
theorem fp_held {post : Int32 → St2 → Prop} {b : Nat} {x k : Int32} (hb : b < 2) (hk : ¬ k < 0) (hx : x = nI b)
    (H : ∀ r t p a3 a4 a5 a6, (k = 0 → r = 0) → (¬ k = 0 → r = nI b) → post r (m, c, t, p, a1, a2, a3, a4, a5, a6, a7, a8, a9)) :
    wpX_held post (m, c, t, p, a1, a2, a3, a4, a5, a6, a7, a8, a9) x k := by
  subst hx
  refine pk_loop (σ := Int32 × (Nat → Int32)) (fun n i s => wX_held_10 post (nI b) k m c (nI b) p n s.1 (nI i) a1 a2 s.2 a4 a5 a6 a7 a8 a9) (fun i s => s.1 = nI (min i b)) 17 0 (0, a3) (by omega) (by rw [Nat.zero_min]; rfl) ?_ ?_
  · intro n s h
    have e : s.1 = nI b := by rw [h, show min 17 b = b by omega]
    refine pk_lt 16 17 (fun _ => ?_) (fun z => absurd z (by omega))
    by_cases h0 : k = 0
    · subst h0
      exact br_c (fun _ => fp_53 (fun q b4 b5 b6 => H _ _ _ _ _ _ _ (fun _ => rfl) (fun z => absurd rfl z)))
        (fun g => H _ _ _ _ _ _ _ (fun _ => fp_n0 hb e g) (fun z => absurd rfl z))
    · exact br_f (fp_klt hb hk h0 e) (H _ _ _ _ _ _ _ (fun z => absurd z h0) (fun _ => e))
  · intro n i s hi h hw
    have e : s.1 + ((nI b >>> (nI i &&& 31)) &&& 1) = nI (min (i + 1) b) := by rw [h]; exact fp_bit i hi b hb
    exact pk_lt 16 i (fun z => absurd z (by omega)) (fun _ => ⟨pk_in i 17 hi, nm_e (nm_e (nm_r (nI_1 i) (hw (_, _) e)))⟩)
end
end
section
/-! the class's methods, at a state with b edges (b: 0 or 1) -/
/-- a good pair of vertices -/
def fp_ok (m u v : Int32) : Prop := ¬ u < 0 ∧ ¬ m ≤ u ∧ ¬ v < 0 ∧ ¬ m ≤ v ∧ ¬ u = v
theorem fp_okS {m u v : Int32} (h : fp_ok m u v) : fp_ok m v u := ⟨h.2.2.1, h.2.2.2.1, h.1, h.2.1, fun e => h.2.2.2.2 e.symm⟩
/-- a good number of forests -/
def fp_num (k : Int32) : Prop := ¬ k < 0 ∧ k ≤ 16
/-- the number of vertices -/
def fp_size (x : Int32) : Int32 := if 2 ≤ x then (if x ≤ 7 then x else 7) else 2
theorem fp_e0 {b : Nat} {e : Int32} (hb : b < 2) (h1 : ¬ e < 0) (h2 : ¬ nI b ≤ e) : b = 1 ∧ e = 0 := by
  have g1 : ¬ e.toInt < 0 := fun z => h1 (Int32.lt_iff_toInt_lt.mpr z)
  have g2 : ¬ (b : Int) ≤ e.toInt := fun z => h2 (Int32.le_iff_toInt_le.mpr (by rw [nI_toInt (show b < 2 ^ 31 by omega)]; exact z))
  refine ⟨by omega, Int32.toInt_inj.mp ?_⟩
  rw [show (0 : Int32).toInt = 0 by decide]
  omega
theorem fp_eneg {e : Int32} (h : e < 0) : ¬ e = 0 := by
  intro z
  rw [z] at h
  exact absurd h (by decide)
theorem fp_ebig {b : Nat} {e : Int32} (h : nI b ≤ e) : ¬ (b = 1 ∧ e = 0) := by
  intro z
  rw [z.1, z.2] at h
  exact absurd h (by decide)
section
variable {m c t p : Int32} {a1 a2 a3 a4 a5 a6 a7 a8 a9 : Nat → Int32}
theorem fp_init {post : St2 → Prop} {f0 f1 f2 f3 x : Int32} (H : post (fp_size x, f1, f2, f3, (fun _ => 0), (fun _ => 0), (fun _ => 0), (fun _ => 0), (fun _ => 0), (fun _ => 0), (fun _ => 0), (fun _ => 0), (fun _ => 0))) :
    wpX_init post 9 123 (f0, f1, f2, f3) x := by
  unfold fp_size at H
  refine ⟨by decide, by decide, by decide, by decide, by decide, by decide, by decide, by decide, by decide, by decide, by decide, by decide, by decide, by decide, by decide, by decide, by decide, by decide, br_c (fun h => br_c (fun g => ?_) (fun g => ?_)) (fun h => br_t (by decide) ?_)⟩
  · rw [if_pos h, if_pos g] at H
    exact H
  · rw [if_pos h, if_neg g] at H
    exact H
  · rw [if_neg h] at H
    exact H
theorem fp_vert {post : Int32 → Prop} (H : post m) : wpX_vertices post (m, c, t, p, a1, a2, a3, a4, a5, a6, a7, a8, a9) := H
theorem fp_pairT {post : Int32 → Prop} {u v : Int32} (h : fp_ok m u v) (H : post 0) : wpX_badPair post (m, c, t, p, a1, a2, a3, a4, a5, a6, a7, a8, a9) u v :=
  br_f h.1 (br_f h.2.1 (br_f h.2.2.1 (br_f h.2.2.2.1 (br_f h.2.2.2.2 H))))
theorem fp_pairF {post : Int32 → Prop} {u v : Int32} (h : ¬ fp_ok m u v) (H : post 1) : wpX_badPair post (m, c, t, p, a1, a2, a3, a4, a5, a6, a7, a8, a9) u v :=
  br_c (fun _ => H) (fun h1 => br_c (fun _ => H) (fun h2 => br_c (fun _ => H) (fun h3 => br_c (fun _ => H) (fun h4 => br_c (fun _ => H) (fun h5 => absurd ⟨h1, h2, h3, h4, h5⟩ h)))))
theorem fp_numT {post : Int32 → Prop} {k : Int32} (h : fp_num k) (H : post 0) : wpX_badCount post (m, c, t, p, a1, a2, a3, a4, a5, a6, a7, a8, a9) k :=
  br_f h.1 (br_t h.2 H)
theorem fp_numF {post : Int32 → Prop} {k : Int32} (h : ¬ fp_num k) (H : post 1) : wpX_badCount post (m, c, t, p, a1, a2, a3, a4, a5, a6, a7, a8, a9) k :=
  br_c (fun _ => H) (fun h1 => br_c (fun h2 => absurd ⟨h1, h2⟩ h) (fun _ => H))
theorem fp_allE {post : Int32 → Prop} (H : post (((1 : Int32) <<< (c &&& 31)) - 1)) : wpX_allEdges post (m, c, t, p, a1, a2, a3, a4, a5, a6, a7, a8, a9) := H
theorem fp_edgeT {post : Int32 → St2 → Prop} {u v : Int32} (h : fp_ok m u v) (H : post 0 (m, nI 1, t, p, upd a1 0 u, upd a2 0 v, a3, a4, a5, a6, a7, a8, a9)) :
    wpX_edge post (m, 0, t, p, a1, a2, a3, a4, a5, a6, a7, a8, a9) u v := by
  unfold wpX_edge
  exact fp_pairT h (br_t rfl (br_f (by decide) ⟨pk_in 0 17 (by decide), nm_r (show upd a1 (0 : Int32).toNatClampNeg u = upd a1 0 u from rfl) ⟨pk_in 0 17 (by decide), nm_r (show upd a2 (0 : Int32).toNatClampNeg v = upd a2 0 v from rfl) (nm_r (show (0 : Int32) + 1 = nI 1 by decide) H)⟩⟩))
theorem fp_edgeF {post : Int32 → St2 → Prop} {u v : Int32} (h : ¬ fp_ok m u v) (H : post (-1) (m, c, t, p, a1, a2, a3, a4, a5, a6, a7, a8, a9)) :
    wpX_edge post (m, c, t, p, a1, a2, a3, a4, a5, a6, a7, a8, a9) u v := by
  unfold wpX_edge
  exact fp_pairF h (br_f (by decide) H)
theorem fp_hold {post : Int32 → St2 → Prop} {b : Nat} {k : Int32} (hb : b < 2)
    (H : ∀ r t p a3 a4 a5 a6, (¬ fp_num k → r = -1) → (fp_num k → k = 0 → r = 0) → (fp_num k → ¬ k = 0 → r = nI b) → post r (m, nI b, t, p, a1, a2, a3, a4, a5, a6, a7, a8, a9)) :
    wpX_hold post (m, nI b, t, p, a1, a2, a3, a4, a5, a6, a7, a8, a9) k := by
  unfold wpX_hold
  by_cases h : fp_num k
  · exact fp_numT h (br_t rfl (fp_allE (fp_held hb h.1 (fp_all b hb) (fun r t p b3 b4 b5 b6 h0 h1 => H r t p b3 b4 b5 b6 (fun z => absurd h z) (fun _ => h0) (fun _ => h1)))))
  · exact fp_numF h (br_f (by decide) (H _ _ _ _ _ _ _ (fun _ => rfl) (fun z => absurd z h) (fun z => absurd z h)))
theorem fp_betweenT {post : Int32 → Prop} {u v : Int32} (h : fp_ok m u v) (h1 : a1 0 = u) (h2 : a2 0 = v) (H : post 1) :
    wpX_between post (m, nI 1, t, p, a1, a2, a3, a4, a5, a6, a7, a8, a9) v u := by
  unfold wpX_between
  exact fp_pairT (fp_okS h) (br_t rfl ⟨2, br_f (by decide) ⟨pk_in 0 17 (by decide), br_f (show ¬ a1 0 = v from fun z => h.2.2.2.2 (h1.symm.trans z))
    ⟨pk_in 0 17 (by decide), br_t (show a1 0 = u from h1) ⟨pk_in 0 17 (by decide), br_t (show a2 0 = v from h2) (nm_r (show (0 : Int32) + 1 = 1 by decide) (nm_r (show (0 : Int32) + 1 = 1 by decide) (br_t (by decide) H)))⟩⟩⟩⟩)
theorem fp_betweenF {post : Int32 → Prop} {u v : Int32} (h : ¬ fp_ok m u v) (H : post 0) :
    wpX_between post (m, c, t, p, a1, a2, a3, a4, a5, a6, a7, a8, a9) v u := by
  unfold wpX_between
  exact fp_pairF (fun z => h (fp_okS z)) (br_f (by decide) H)
theorem fp_firm {post : Int32 → St2 → Prop} {b : Nat} {e k : Int32} (hb : b < 2)
    (H : ∀ r t p a3 a4 a5 a6, (b = 1 ∧ e = 0 ∧ fp_num k ∧ ¬ k = 0 → r = 1) → (¬ (b = 1 ∧ e = 0 ∧ fp_num k ∧ ¬ k = 0) → r = 0) → post r (m, nI b, t, p, a1, a2, a3, a4, a5, a6, a7, a8, a9)) :
    wpX_isFirm post (m, nI b, t, p, a1, a2, a3, a4, a5, a6, a7, a8, a9) e k := by
  refine br_c (fun g => H _ _ _ _ _ _ _ (fun z => absurd z.2.1 (fp_eneg g)) (fun _ => rfl)) (fun g1 => br_c (fun g => H _ _ _ _ _ _ _ (fun z => absurd ⟨z.1, z.2.1⟩ (fp_ebig g)) (fun _ => rfl)) (fun g2 => ?_))
  obtain ⟨eb, ee⟩ := fp_e0 hb g1 g2
  subst eb ee
  by_cases h : fp_num k
  · refine fp_numT h (br_t rfl (fp_allE (fp_held hb h.1 (fp_all 1 hb) (fun r t p b3 b4 b5 b6 h0 h1 => fp_held (b := 0) (by decide) h.1 (by decide) (fun s t' p' c3 c4 c5 c6 k0 k1 => ?_)))))
    by_cases hk : k = 0
    · rw [h0 hk, k0 hk]
      exact br_t (by decide) (H _ _ _ _ _ _ _ (fun z => absurd hk z.2.2.2) (fun _ => rfl))
    · rw [h1 hk, k1 hk]
      exact br_f (by decide) (H _ _ _ _ _ _ _ (fun _ => rfl) (fun z => absurd ⟨rfl, rfl, h, hk⟩ z))
  · exact fp_numF h (br_f (by decide) (H _ _ _ _ _ _ _ (fun z => absurd z.2.2.1 h) (fun _ => rfl)))
theorem fp_rejoin {post : Int32 → St2 → Prop} {b : Nat} {e u v : Int32} (hb : b < 2)
    (H : ∀ r a1 a2, (b = 1 ∧ e = 0 ∧ fp_ok m u v → r = 0) → (¬ (b = 1 ∧ e = 0 ∧ fp_ok m u v) → r = -1) → post r (m, nI b, t, p, a1, a2, a3, a4, a5, a6, a7, a8, a9)) :
    wpX_rejoin post (m, nI b, t, p, a1, a2, a3, a4, a5, a6, a7, a8, a9) e v u := by
  refine br_c (fun g => H _ _ _ (fun z => absurd z.2.1 (fp_eneg g)) (fun _ => rfl)) (fun g1 => br_c (fun g => H _ _ _ (fun z => absurd ⟨z.1, z.2.1⟩ (fp_ebig g)) (fun _ => rfl)) (fun g2 => ?_))
  obtain ⟨eb, ee⟩ := fp_e0 hb g1 g2
  subst eb ee
  by_cases h : fp_ok m u v
  · exact fp_pairT (fp_okS h) (br_t rfl ⟨pk_in 0 17 (by decide), nm_e ⟨pk_in 0 17 (by decide), nm_e (H _ _ _ (fun _ => rfl) (fun z => absurd ⟨rfl, rfl, h⟩ z))⟩⟩)
  · exact fp_pairF (fun z => h (fp_okS z)) (br_f (by decide) (H _ _ _ (fun z => absurd z.2.2 h) (fun _ => rfl)))
end
end
section
/-! the law's tail, then the law -/
section
variable {post : Int32 → St0 → Prop} {mc ms kc ks : Nat} {k e x6 x7 x8 x9 x10 x11 x12 x13 x14 z0 z1 : Int32}
theorem fp_227 (H : post 1 ()) (hz : z1 = z0) (j1 : x13 = 0 → x11 = -1) (j2 : ¬ e = 0 → x11 = -1) (j3 : ¬ x13 = 0 → e = 0 → x11 = 0) :
    wL_lawOf_227 post mc ms e x11 x13 z0 z1 kc ks :=
  br_t hz (br_c (fun g => br_t (j1 g) H) (fun g => br_c (fun g' => br_t (j3 g g') H) (fun g' => br_t (j2 g') H)))
theorem fp_198 (H : post 1 ()) (hz : z1 = z0) (j1 : x13 = 0 → x11 = -1) (j2 : ¬ e = 0 → x11 = -1) (j3 : ¬ x13 = 0 → e = 0 → x11 = 0)
    (f1 : ¬ x13 = 0 → e = 0 → ¬ x14 = 0 → ¬ k ≤ 0 → x10 = 1) (f0 : ¬ (¬ x13 = 0 ∧ e = 0 ∧ ¬ x14 = 0 ∧ ¬ k ≤ 0) → x10 = 0) :
    wL_lawOf_198 post mc ms k e x10 x11 x13 x14 z0 z1 kc ks :=
  br_t hz (br_c (fun g => fp_227 H (f0 (fun z => z.1 g)) j1 j2 j3) (fun g => br_c (fun g1 => br_c (fun g2 => fp_227 H (f0 (fun z => z.2.2.1 g2)) j1 j2 j3)
    (fun g2 => br_c (fun g3 => fp_227 H (f0 (fun z => z.2.2.2 g3)) j1 j2 j3) (fun g3 => fp_227 H (f1 g g1 g2 g3) j1 j2 j3))) (fun g1 => fp_227 H (f0 (fun z => g1 z.2.1)) j1 j2 j3)))
theorem fp_183 (H : post 1 ()) (hz : z1 = z0) (b0 : x13 = 0 → x9 = 0) (b1 : ¬ x13 = 0 → x9 = 1) (j1 : x13 = 0 → x11 = -1) (j2 : ¬ e = 0 → x11 = -1) (j3 : ¬ x13 = 0 → e = 0 → x11 = 0)
    (f1 : ¬ x13 = 0 → e = 0 → ¬ x14 = 0 → ¬ k ≤ 0 → x10 = 1) (f0 : ¬ (¬ x13 = 0 ∧ e = 0 ∧ ¬ x14 = 0 ∧ ¬ k ≤ 0) → x10 = 0) :
    wL_lawOf_183 post mc ms k e x9 x10 x11 x13 x14 z0 z1 kc ks :=
  br_t hz (br_c (fun g => fp_198 H (b0 g) j1 j2 j3 f1 f0) (fun g => fp_198 H (b1 g) j1 j2 j3 f1 f0))
theorem fp_134 (H : post 1 ()) (h6 : x6 = x12) (d0 : x13 = 0 → x7 = -1) (d1 : ¬ x13 = 0 → x7 = 0)
    (o0 : x14 = 0 → x8 = -1) (o1 : ¬ x14 = 0 → x13 = 0 → x8 = 0) (o2 : ¬ x14 = 0 → k ≤ 0 → x8 = 0) (o3 : ¬ x14 = 0 → ¬ x13 = 0 → ¬ k ≤ 0 → x8 = 1)
    (b0 : x13 = 0 → x9 = 0) (b1 : ¬ x13 = 0 → x9 = 1) (j1 : x13 = 0 → x11 = -1) (j2 : ¬ e = 0 → x11 = -1) (j3 : ¬ x13 = 0 → e = 0 → x11 = 0)
    (f1 : ¬ x13 = 0 → e = 0 → ¬ x14 = 0 → ¬ k ≤ 0 → x10 = 1) (f0 : ¬ (¬ x13 = 0 ∧ e = 0 ∧ ¬ x14 = 0 ∧ ¬ k ≤ 0) → x10 = 0) :
    wL_lawOf_134 post mc ms k e x6 x7 x8 x9 x10 x11 x12 x13 x14 kc ks := by
  have s : ∀ z0 z1 : Int32, z1 = z0 → wL_lawOf_155 post mc ms k e x8 x9 x10 x11 x13 x14 z0 z1 kc ks := fun z0 z1 hz =>
    br_t hz (br_c (fun g => fp_183 H (o0 g) b0 b1 j1 j2 j3 f1 f0) (fun g => br_c (fun g1 => fp_183 H (o1 g g1) b0 b1 j1 j2 j3 f1 f0)
      (fun g1 => br_c (fun g2 => fp_183 H (o2 g g2) b0 b1 j1 j2 j3 f1 f0) (fun g2 => fp_183 H (o3 g g1 g2) b0 b1 j1 j2 j3 f1 f0))))
  exact br_t h6 (br_c (fun g => s _ _ (d0 g)) (fun g => s _ _ (d1 g)))
theorem fp_k0 (h : fp_num k) : k ≤ 0 ↔ k = 0 := by
  constructor
  · intro g
    have h1 : ¬ k.toInt < 0 := fun z => h.1 (Int32.lt_iff_toInt_lt.mpr z)
    have h2 : k.toInt ≤ 0 := Int32.le_iff_toInt_le.mp g
    exact Int32.toInt_inj.mp (show k.toInt = (0 : Int32).toInt by rw [show (0 : Int32).toInt = 0 by decide]; omega)
  · intro g
    rw [g]
    decide
theorem fp_117 (H : post 1 ()) (h6 : x6 = x12) (d0 : x13 = 0 → x7 = -1) (d1 : ¬ x13 = 0 → x7 = 0)
    (o0 : ¬ fp_num k → x8 = -1) (o1 : fp_num k → x13 = 0 → x8 = 0) (o2 : fp_num k → k = 0 → x8 = 0) (o3 : fp_num k → ¬ x13 = 0 → ¬ k = 0 → x8 = 1)
    (b0 : x13 = 0 → x9 = 0) (b1 : ¬ x13 = 0 → x9 = 1) (j1 : x13 = 0 → x11 = -1) (j2 : ¬ e = 0 → x11 = -1) (j3 : ¬ x13 = 0 → e = 0 → x11 = 0)
    (f1 : ¬ x13 = 0 → e = 0 → fp_num k → ¬ k = 0 → x10 = 1) (f0 : ¬ (¬ x13 = 0 ∧ e = 0 ∧ fp_num k ∧ ¬ k = 0) → x10 = 0) :
    wL_lawOf_117 post mc ms k e x6 x7 x8 x9 x10 x11 x12 x13 kc ks := by
  have bad : ¬ fp_num k → wL_lawOf_134 post mc ms k e x6 x7 x8 x9 x10 x11 x12 x13 0 kc ks := fun n =>
    fp_134 H h6 d0 d1 (fun _ => o0 n) (fun z => absurd rfl z) (fun z => absurd rfl z) (fun z => absurd rfl z) b0 b1 j1 j2 j3 (fun _ _ z => absurd rfl z) (fun _ => f0 (fun z => n z.2.2.1))
  refine br_c (fun g => bad (fun n => n.1 g)) (fun g => br_c (fun g1 => bad (fun n => Int32.not_lt.mpr n.2 g1)) (fun g1 => ?_))
  have n : fp_num k := ⟨g, Int32.not_lt.mp g1⟩
  have one : ¬ (1 : Int32) = 0 := by decide
  exact fp_134 H h6 d0 d1 (fun z => absurd z one) (fun _ => o1 n) (fun _ z => o2 n ((fp_k0 n).mp z)) (fun _ w z => o3 n w (fun y => z ((fp_k0 n).mpr y))) b0 b1 j1 j2 j3
    (fun w w2 _ z => f1 w w2 n (fun y => z ((fp_k0 n).mpr y))) (fun z => f0 (fun w => z ⟨w.1, w.2.1, one, fun y => w.2.2.2 ((fp_k0 n).mp y)⟩))
theorem fp_85T {m u v : Int32} (H : post 1 ()) (h : fp_ok m u v)
    (o0 : ¬ fp_num k → x8 = -1) (o2 : fp_num k → k = 0 → x8 = 0) (o3 : fp_num k → ¬ k = 0 → x8 = nI 1)
    (f1 : 1 = 1 ∧ e = 0 ∧ fp_num k ∧ ¬ k = 0 → x10 = 1) (f0 : ¬ (1 = 1 ∧ e = 0 ∧ fp_num k ∧ ¬ k = 0) → x10 = 0)
    (j1 : 1 = 1 ∧ e = 0 ∧ fp_ok m u v → x11 = 0) (j0 : ¬ (1 = 1 ∧ e = 0 ∧ fp_ok m u v) → x11 = -1) :
    wL_lawOf_85 post mc ms u v k e m 0 x8 1 x10 x11 m kc ks := by
  have one : ¬ (1 : Int32) = 0 := by decide
  exact br_f h.1 (br_f h.2.1 (br_f h.2.2.1 (br_f h.2.2.2.1 (br_f h.2.2.2.2 (fp_117 H rfl (fun z => absurd z one) (fun _ => rfl) o0 (fun _ z => absurd z one) o2 (fun n _ => o3 n)
    (fun z => absurd z one) (fun _ => rfl) (fun z => absurd z one) (fun z => j0 (fun w => z w.2.1)) (fun _ z => j1 ⟨rfl, z, h⟩) (fun _ w n z => f1 ⟨rfl, w, n, z⟩) (fun z => f0 (fun w => z ⟨one, w.2⟩)))))))
theorem fp_85F {m u v : Int32} (H : post 1 ()) (h : ¬ fp_ok m u v)
    (o0 : ¬ fp_num k → x8 = -1) (o2 : fp_num k → k = 0 → x8 = 0) (o3 : fp_num k → ¬ k = 0 → x8 = nI 0)
    (f0 : ¬ (0 = 1 ∧ e = 0 ∧ fp_num k ∧ ¬ k = 0) → x10 = 0) (j0 : ¬ (0 = 1 ∧ e = 0 ∧ fp_ok m u v) → x11 = -1) :
    wL_lawOf_85 post mc ms u v k e m (-1) x8 0 x10 x11 m kc ks := by
  have n0 : ¬ 0 = 1 := by decide
  have s : wL_lawOf_117 post mc ms k e m (-1) x8 0 x10 x11 m 0 kc ks :=
    fp_117 H rfl (fun _ => rfl) (fun z => absurd rfl z) o0 (fun n _ => (Classical.em (k = 0)).elim (o2 n) (o3 n)) o2 (fun _ z => absurd rfl z)
      (fun _ => rfl) (fun z => absurd rfl z) (fun _ => j0 (fun z => n0 z.1)) (fun _ => j0 (fun z => n0 z.1)) (fun z => absurd rfl z) (fun z => absurd rfl z) (fun _ => f0 (fun z => n0 z.1))
  exact br_c (fun _ => s) (fun h1 => br_c (fun _ => s) (fun h2 => br_c (fun _ => s) (fun h3 => br_c (fun _ => s) (fun h4 => br_c (fun _ => s) (fun h5 => absurd ⟨h1, h2, h3, h4, h5⟩ h)))))
/-- the law's own reading of the size is the class's -/
theorem fp_due {x u v k e : Int32} (H : wL_lawOf_85 post mc ms u v k e x6 x7 x8 x9 x10 x11 (fp_size x) kc ks) :
    (2 ≤ x → ((x ≤ 7 → wL_lawOf_85 post mc ms u v k e x6 x7 x8 x9 x10 x11 x kc ks) ∧ (¬ x ≤ 7 → wL_lawOf_85 post mc ms u v k e x6 x7 x8 x9 x10 x11 7 kc ks))) ∧ (¬ 2 ≤ x → wL_lawOf_85 post mc ms u v k e x6 x7 x8 x9 x10 x11 2 kc ks) := by
  unfold fp_size at H
  refine br_c (fun h => br_c (fun g => ?_) (fun g => ?_)) (fun h => ?_)
  · rw [if_pos h, if_pos g] at H
    exact H
  · rw [if_pos h, if_neg g] at H
    exact H
  · rw [if_neg h] at H
    exact H
theorem fp_lawOf {x u v : Int32} (H : post 1 ()) : wpL_lawOf post 10 136 () x u v k e := by
  refine ⟨by decide, by decide, 9, 123, by decide, by decide, fp_init (fp_vert ?_)⟩
  by_cases h : fp_ok (fp_size x) u v
  · exact fp_edgeT h (fp_hold (b := 1) (by decide) (fun r1 t1 p1 b3 b4 b5 b6 o0 o2 o3 => fp_betweenT h rfl rfl
      (fp_firm (b := 1) (by decide) (fun r2 t2 p2 c3 c4 c5 c6 f1 f0 => fp_rejoin (b := 1) (u := u) (v := v) (by decide) (fun r3 d1 d2 j1 j0 => fp_due (fp_85T H h o0 o2 o3 f1 f0 j1 j0))))))
  · exact fp_edgeF h (fp_hold (b := 0) (by decide) (fun r1 t1 p1 b3 b4 b5 b6 o0 o2 o3 => fp_betweenF h
      (fp_firm (b := 0) (by decide) (fun r2 t2 p2 c3 c4 c5 c6 f1 f0 => fp_rejoin (b := 0) (u := u) (v := v) (by decide) (fun r3 d1 d2 j1 j0 => fp_due (fp_85F H h o0 o2 o3 f0 j0))))))
end
theorem fp_cell {post : Int32 → Prop} {L : Nat} {xs : Nat → Int32} {q : Int32} (i : Nat) (hi : i < 5) (hL : L ≤ 5) (hq : q = nI i) (H : ∀ r, post r) : wpL_cellAt post L xs () q := by
  subst hq
  exact pk_le L i (fun _ => H _) (fun z => ⟨pk_in i L z, H _⟩)
theorem i_vc (xs : Nat → Int32) (L : Nat) (hL : L ≤ 5) : wpL_law (fun r => r = 1) L xs :=
  fp_cell 0 (by decide) hL rfl (fun r1 => fp_cell 1 (by decide) hL rfl (fun r2 => fp_cell 2 (by decide) hL rfl (fun r3 => fp_cell 3 (by decide) hL rfl (fun r4 => fp_cell 4 (by decide) hL rfl (fun r5 =>
    ⟨10, 136, by decide, by decide, fp_lawOf rfl⟩)))))
end
