section
/-! pictures: sa_F, nothing is known; sa_R, one stream knows one range -/
def sa_F (a2 a3 a4 : Nat → Int32) : Prop := ∀ j, j < 4 → a2 j = 0 ∧ a3 j = -1 ∧ a4 j = 0
def sa_R (s o t : Nat) (b : Int32) (a1 a2 a3 a4 a5 a6 : Nat → Int32) : Prop := a2 s = 0 ∧ a3 s = -1 ∧ a4 s = 1 ∧ a5 (13 * s) = nI o ∧ a6 (13 * s) = nI t ∧ (o = 0 → a1 (32 * s) = b &&& 255)
theorem sa_13 (s : Nat) : (13 : Int32) * nI s = nI (13 * s) := pk_mul 13 s
theorem sa_130 (s : Nat) : (13 : Int32) * nI s + 0 = nI (13 * s) := by
  rw [sa_13]
  exact nI_add (13 * s) 0
theorem sa_131 (s : Nat) : (13 : Int32) * nI s + 1 = nI (13 * s + 1) := by
  rw [sa_13]
  exact nI_1 (13 * s)
theorem sa_13p (s : Nat) : (13 : Int32) * nI s + 1 - 1 = nI (13 * s) := by
  rw [sa_131]
  exact nI_pred (13 * s)
theorem sa_32 {s i : Nat} (hi : i < 32) : (32 : Int32) * nI s + (nI i &&& 31) = nI (32 * s + i) := by
  rw [pk_andN (n := i) (m := 31) (by omega) 5 (by decide), Nat.mod_eq_of_lt (show i < 2 ^ 5 by omega), show (32 : Int32) * nI s = nI (32 * s) from pk_mul 32 s, nI_add]
theorem sa_sub0 (x : Int32) : x - 0 = x := by
  grind
section
variable {a1 a2 a3 a4 a5 a6 : Nat → Int32} {s o t : Nat} {b : Int32}
theorem sa_st {post : Int32 → Prop} (hs : s < 4) (h : post 1) : wpX_isStream post () (nI s) :=
  br_f (nI_pos (by omega)) (br_f (nI_nlt (a := 3) (b := s) (by omega) (by decide)) h)
theorem sa_sn {post : Int32 → Prop} {x : Int32} (hx : x < 0 ∨ 3 < x) (h : post 0) : wpX_isStream post () x :=
  br_c (fun _ => h) (fun z => br_t (hx.resolve_left z) h)
theorem sa_hiF {post : Int32 → Prop} (hs : s < 4) (h2 : a2 s = 0) (h3 : a3 s = -1) (h4 : a4 s = 0) (h : post 0) : wpX_highest post (a1, a2, a3, a4, a5, a6) (nI s) := by
  unfold wpX_highest
  refine sa_st hs (br_f (by decide) ⟨pk_in s 4 hs, ?_⟩)
  rw [nI_clamp (show s < 2 ^ 31 by omega), h2, h3, h4]
  exact br_t (by decide) ⟨pk_in s 4 hs, nm_e (br_t (by decide) ⟨pk_in s 4 hs, h⟩)⟩
theorem sa_hiR {post : Int32 → Prop} (hs : s < 4) (h3 : a3 s = -1) (h4 : a4 s = 1) (h : post (a6 (13 * s))) : wpX_highest post (a1, a2, a3, a4, a5, a6) (nI s) := by
  unfold wpX_highest
  refine sa_st hs (br_f (by decide) ⟨pk_in s 4 hs, ?_⟩)
  rw [nI_clamp (show s < 2 ^ 31 by omega), h3, h4]
  refine br_t (by decide) ⟨pk_in s 4 hs, nm_e (br_f (by decide) ?_)⟩
  rw [sa_13p, nI_clamp (show 13 * s < 2 ^ 31 by omega)]
  exact ⟨pk_in (13 * s) 52 (by omega), h⟩
theorem sa_laF {post : Int32 → Prop} (hs : s < 4) (h2 : a2 s = 0) (h4 : a4 s = 0) (h : post 0) : wpX_lastKnown post (a1, a2, a3, a4, a5, a6) (nI s) := by
  unfold wpX_lastKnown
  refine ⟨pk_in s 4 hs, ?_⟩
  rw [nI_clamp (show s < 2 ^ 31 by omega), h2, h4]
  exact nm_e (br_t (by decide) ⟨pk_in s 4 hs, h⟩)
theorem sa_laR {post : Int32 → Prop} (hs : s < 4) (h4 : a4 s = 1) (h : post (a6 (13 * s))) : wpX_lastKnown post (a1, a2, a3, a4, a5, a6) (nI s) := by
  unfold wpX_lastKnown
  refine ⟨pk_in s 4 hs, ?_⟩
  rw [nI_clamp (show s < 2 ^ 31 by omega), h4]
  refine nm_e (br_f (by decide) ?_)
  rw [sa_13p, nI_clamp (show 13 * s < 2 ^ 31 by omega)]
  exact ⟨pk_in (13 * s) 52 (by omega), h⟩
theorem sa_cr {post : Int32 → Prop} (f : sa_F a2 a3 a4) (h : post 56) : wpX_credit post (a1, a2, a3, a4, a5, a6) := by
  unfold wpX_credit
  exact pk_loop (σ := Unit) (fun n i _ => wX_credit_5 post a1 a2 a3 a4 a5 a6 n 56 (nI i)) (fun _ _ => True) 4 0 () (by omega) trivial
    (fun n _ _ => pk_le 4 4 (fun _ => h) (fun z => absurd z (by omega)))
    (fun n i _ hi _ hw => pk_le 4 i (fun z => absurd z (by omega)) (fun _ => sa_hiF hi (f i hi).1 (f i hi).2.1 (f i hi).2.2 ⟨pk_in i 4 hi, nm_r (show (56 : Int32) + (a2 (nI i).toNatClampNeg - 0) = 56 by rw [nI_clamp (by omega), (f i hi).1]; decide) (nm_r (nI_1 i) (hw () trivial))⟩))
theorem sa_mrT {post : Int32 → Prop} (hs : s < 4) (f : sa_F a2 a3 a4) (h0 : 0 < t) (ht : t ≤ 24) (h : post 1) : wpX_mayReach post (a1, a2, a3, a4, a5, a6) (nI s) (nI t) := by
  unfold wpX_mayReach
  dsimp only
  unfold wpX_limitOf
  refine ⟨pk_in s 4 hs, ?_⟩
  rw [nI_clamp (show s < 2 ^ 31 by omega), (f s hs).1]
  refine nm_r (show (0 : Int32) + 24 = nI 24 by decide) (pk_le 24 240 (fun _ => pk_le t 24 (fun _ => ?_) (fun z => absurd z (by omega))) (fun z => absurd z (by omega)))
  refine sa_hiF hs (f s hs).1 (f s hs).2.1 (f s hs).2.2 (nm_r (sa_sub0 (nI t)) (br_f (nI_nle h0 (by omega)) ?_))
  exact sa_cr f (br_f (nI_nlt (a := 56) (b := t) (by omega) (by decide)) h)
theorem sa_mrF {post : Int32 → Prop} (hs : s < 4) (f : sa_F a2 a3 a4) (ht : 24 < t) (ht2 : t < 2 ^ 31) (h : post 0) : wpX_mayReach post (a1, a2, a3, a4, a5, a6) (nI s) (nI t) := by
  unfold wpX_mayReach
  dsimp only
  unfold wpX_limitOf
  refine ⟨pk_in s 4 hs, ?_⟩
  rw [nI_clamp (show s < 2 ^ 31 by omega), (f s hs).1]
  exact nm_r (show (0 : Int32) + 24 = nI 24 by decide) (pk_le 24 240 (fun _ => pk_le t 24 (fun z => absurd z (by omega)) (fun _ => h)) (fun z => absurd z (by omega)))
/-! isKnown: no range; one range from 0; one range from above 0 -/
theorem sa_kA {post : Int32 → Prop} {x : Int32} (hs : s < 4) (h4 : a4 s = 0) (h : post 0) : wpX_isKnown post (a1, a2, a3, a4, a5, a6) (nI s) x := by
  unfold wpX_isKnown
  refine nm_r (sa_13 s) ⟨0 + 1, pk_in s 4 hs, ?_⟩
  rw [nI_clamp (show s < 2 ^ 31 by omega), h4, sa_130]
  exact pk_le (13 * s) (13 * s) (fun _ => h) (fun z => absurd z (by omega))
theorem sa_kB {post : Int32 → Prop} (hs : s < 4) (h4 : a4 s = 1) (h5 : a5 (13 * s) = nI 0) (h6 : a6 (13 * s) = nI t) (h0 : 0 < t) (ht : t < 2 ^ 31) (h : post 1) : wpX_isKnown post (a1, a2, a3, a4, a5, a6) (nI s) 0 := by
  unfold wpX_isKnown
  refine nm_r (sa_13 s) ⟨0 + 1, pk_in s 4 hs, ?_⟩
  rw [nI_clamp (show s < 2 ^ 31 by omega), nI_clamp (show 13 * s < 2 ^ 31 by omega), h4, h5, h6, sa_131]
  exact pk_le (13 * s + 1) (13 * s) (fun z => absurd z (by omega)) (fun _ => ⟨pk_in (13 * s) 52 (by omega), br_f (by decide) ⟨pk_in (13 * s) 52 (by omega), br_f (nI_nle h0 ht) h⟩⟩)
theorem sa_kC {post : Int32 → Prop} (hs : s < 4) (h4 : a4 s = 1) (h5 : a5 (13 * s) = nI o) (h0 : 0 < o) (ho : o < 2 ^ 31) (h : post 0) : wpX_isKnown post (a1, a2, a3, a4, a5, a6) (nI s) 0 := by
  unfold wpX_isKnown
  refine nm_r (sa_13 s) ⟨0 + 1 + 1, pk_in s 4 hs, ?_⟩
  rw [nI_clamp (show s < 2 ^ 31 by omega), nI_clamp (show 13 * s < 2 ^ 31 by omega), h4, h5, sa_131]
  refine pk_le (13 * s + 1) (13 * s) (fun z => absurd z (by omega)) (fun _ => ⟨pk_in (13 * s) 52 (by omega), br_t (nI_lt (a := 0) h0 ho) (nm_r (nI_1 (13 * s)) ⟨pk_in s 4 hs, ?_⟩)⟩)
  rw [nI_clamp (show s < 2 ^ 31 by omega), h4, sa_131]
  exact pk_le (13 * s + 1) (13 * s + 1) (fun _ => h) (fun z => absurd z (by omega))
/-! the new range, where none was -/
theorem sa_add {post : St2 → Prop} {x y : Int32} (hs : s < 4) (h4 : a4 s = 0) (h : post (a1, a2, a3, upd a4 s 1, upd a5 (13 * s) x, upd a6 (13 * s) y)) : wpX_addRange post (a1, a2, a3, a4, a5, a6) (nI s) x y := by
  unfold wpX_addRange
  refine nm_e ⟨pk_in s 4 hs, ?_⟩
  rw [nI_clamp (show s < 2 ^ 31 by omega), h4]
  refine nm_e ⟨0 + 1, br_t (by decide) ⟨0 + 1, br_t (by decide) (br_t rfl ?_)⟩⟩
  unfold wpX_openRange
  refine nm_e ⟨pk_in s 4 hs, ?_⟩
  rw [nI_clamp (show s < 2 ^ 31 by omega), h4]
  refine nm_e ⟨0 + 1, br_t (by decide) ⟨pk_in s 4 hs, pk_in s 4 hs, ?_⟩⟩
  rw [nI_clamp (show s < 2 ^ 31 by omega), h4]
  refine nm_r (show upd a4 s (0 + 1) = upd a4 s 1 from rfl) ?_
  dsimp only
  unfold wX_addRange_197
  rw [sa_130, nI_clamp (show 13 * s < 2 ^ 31 by omega)]
  exact ⟨pk_in (13 * s) 52 (by omega), nm_e ⟨pk_in (13 * s) 52 (by omega), nm_e h⟩⟩
theorem sa_drop {post : St2 → Prop} (hs : s < 4) (h4 : a4 s = 1) (h : post (a1, a2, a3, upd a4 s 0, a5, a6)) : wpX_dropRanges post (a1, a2, a3, a4, a5, a6) (nI s) 0 1 := by
  unfold wpX_dropRanges
  refine nm_e (nm_r (show (1 : Int32) - 0 = 1 by decide) ⟨0 + 1, pk_in s 4 hs, ?_⟩)
  rw [nI_clamp (show s < 2 ^ 31 by omega), h4]
  exact br_t (by decide) ⟨pk_in s 4 hs, pk_in s 4 hs, nm_r (show upd a4 s (1 - 1) = upd a4 s 0 from rfl) h⟩
end
end
section
section
variable {a1 a2 a3 a4 a5 a6 : Nat → Int32} {s o t l : Nat} {b : Int32}
/-! piece: the bytes, then the range -/
theorem sa_pcL {post : Int32 → St2 → Prop} (hs : s < 4) (h4 : a4 s = 0) (hot : o < t) (ht : t ≤ 24)
    (H : ∀ c : Nat → Int32, (o = 0 → c (32 * s) = b &&& 255) → post (nI (t - o)) (c, a2, a3, upd a4 s 1, upd a5 (13 * s) (nI o), upd a6 (13 * s) (nI t))) :
    ∃ n, wX_piece_100 post (nI s) (nI o) b (nI t) (nI o) n 0 (nI o) a1 a2 a3 a4 a5 a6 := by
  have L : ∃ n, wX_piece_100 post (nI s) (nI o) b (nI t) (nI o) n (nI (o - o)) (nI o) a1 a2 a3 a4 a5 a6 := by
    refine pk_loop (σ := Nat → Int32) (fun n i c => wX_piece_100 post (nI s) (nI o) b (nI t) (nI o) n (nI (i - o)) (nI i) c a2 a3 a4 a5 a6) (fun i c => o ≤ i ∧ (o = 0 → 0 < i → c (32 * s) = b &&& 255)) t o a1 (by omega) ⟨Nat.le_refl o, fun z z' => absurd z' (by omega)⟩ ?_ ?_
    · intro n c hc
      exact pk_le t t (fun _ => br_f (nI_ge hot (by omega)) (sa_add hs h4 (H c (fun z => hc.2 z (by omega))))) (fun z => absurd z (by omega))
    · intro n i c hi hc hw
      refine pk_le t i (fun z => absurd z (by omega)) (fun _ => sa_kA hs h4 (br_t rfl ?_))
      rw [sa_32 (show i < 32 by omega), nI_clamp (show 32 * s + i < 2 ^ 31 by omega)]
      have e1 : nI (i - o) + 1 = nI (i + 1 - o) := by
        rw [nI_1, show i - o + 1 = i + 1 - o by have := hc.1; omega]
      refine ⟨pk_in (32 * s + i) 128 (by omega), nm_e (nm_r e1 (nm_r (nI_1 i) (hw _ ⟨by have := hc.1; omega, fun z _ => ?_⟩)))⟩
      by_cases e : i = 0
      · subst e
        subst z
        rw [show 32 * s + 0 = 32 * s from rfl, pk_us, show (8 : Int32) * (nI 0 - nI 0) = 0 by decide, sb_shr0]
      · rw [pk_un (by omega)]
        exact hc.2 z (by omega)
  rw [Nat.sub_self] at L
  exact L
theorem sa_pcOk {post : Int32 → St2 → Prop} (hs : s < 4) (f : sa_F a2 a3 a4) (l1 : 1 ≤ l) (l4 : l ≤ 4) (ht : o + l ≤ 24)
    (H : ∀ c : Nat → Int32, (o = 0 → c (32 * s) = b &&& 255) → post (nI l) (c, a2, a3, upd a4 s 1, upd a5 (13 * s) (nI o), upd a6 (13 * s) (nI (o + l)))) :
    wpX_piece post (a1, a2, a3, a4, a5, a6) (nI s) (nI o) (nI l) b := by
  have L : ∃ n, wX_piece_100 post (nI s) (nI o) b (nI (o + l)) (nI o) n 0 (nI o) a1 a2 a3 a4 a5 a6 :=
    sa_pcL hs (f s hs).2.2 (by omega) ht (by rw [show o + l - o = l by omega]; exact H)
  unfold wpX_piece
  refine sa_st hs (br_f (by decide) (pk_lt l 1 (fun z => absurd z (by omega)) (fun _ => pk_lt 4 l (fun z => absurd z (by omega)) (fun _ => br_f (nI_pos (by omega)) (pk_le o 1000 (fun _ => nm_r (nI_add o l) ⟨pk_in s 4 hs, ?_⟩) (fun z => absurd z (by omega)))))))
  rw [nI_clamp (show s < 2 ^ 31 by omega), (f s hs).2.1]
  refine br_t (by decide) ?_
  unfold wX_piece_58
  refine sa_mrT hs f (by omega) ht (br_f (by decide) ⟨pk_in s 4 hs, ?_⟩)
  rw [nI_clamp (show s < 2 ^ 31 by omega), (f s hs).1]
  refine pk_le o 0 (fun z => ⟨pk_in s 4 hs, nm_r (show (0 : Int32) = nI o by rw [show o = 0 by omega]; rfl) L⟩) (fun _ => L)
theorem sa_pcFl {post : Int32 → St2 → Prop} (hs : s < 4) (f : sa_F a2 a3 a4) (l1 : 1 ≤ l) (l4 : l ≤ 4) (ho : o ≤ 1000) (ht : 24 < o + l)
    (h : post (-2) (a1, a2, a3, a4, a5, a6)) : wpX_piece post (a1, a2, a3, a4, a5, a6) (nI s) (nI o) (nI l) b := by
  unfold wpX_piece
  refine sa_st hs (br_f (by decide) (pk_lt l 1 (fun z => absurd z (by omega)) (fun _ => pk_lt 4 l (fun z => absurd z (by omega)) (fun _ => br_f (nI_pos (by omega)) (pk_le o 1000 (fun _ => nm_r (nI_add o l) ⟨pk_in s 4 hs, ?_⟩) (fun z => absurd z (by omega)))))))
  rw [nI_clamp (show s < 2 ^ 31 by omega), (f s hs).2.1]
  refine br_t (by decide) ?_
  unfold wX_piece_58
  exact sa_mrF hs f ht (by omega) (br_t rfl h)
theorem sa_pcBad {post : Int32 → St2 → Prop} {p0 p1 p2 p3 : Int32} (hb : (p0 < 0 ∨ 3 < p0) ∨ p2 < 1 ∨ 4 < p2 ∨ p1 < 0 ∨ 1000 < p1)
    (h : post (-1) (a1, a2, a3, a4, a5, a6)) : wpX_piece post (a1, a2, a3, a4, a5, a6) p0 p1 p2 p3 := by
  unfold wpX_piece
  by_cases hn : p0 < 0 ∨ 3 < p0
  · exact sa_sn hn (br_t rfl h)
  · refine br_f (fun z => hn (Or.inl z)) (br_f (fun z => hn (Or.inr z)) (br_f (by decide) (br_c (fun _ => h) (fun z1 => br_c (fun _ => h) (fun z2 => br_c (fun _ => h) (fun z3 => br_f ?_ h))))))
    have g : 1000 < p1 := (((hb.resolve_left hn).resolve_left z1).resolve_left z2).resolve_left z3
    exact Int32.not_le.mpr g
/-! readable -/
theorem sa_reN {post : Int32 → Prop} {x : Int32} (hx : x < 0 ∨ 3 < x) (h : post (-1)) : wpX_readable post (a1, a2, a3, a4, a5, a6) x := by
  unfold wpX_readable
  exact sa_sn hx (br_t rfl h)
theorem sa_re0 {post : Int32 → Prop} (hs : s < 4) (h2 : a2 s = 0) (hk : ∀ ψ : Int32 → Prop, ψ 0 → wpX_isKnown ψ (a1, a2, a3, a4, a5, a6) (nI s) 0) (h : post 0) : wpX_readable post (a1, a2, a3, a4, a5, a6) (nI s) := by
  unfold wpX_readable
  refine sa_st hs (br_f (by decide) ⟨pk_in s 4 hs, ?_⟩)
  rw [nI_clamp (show s < 2 ^ 31 by omega), h2]
  exact nm_e (hk _ (br_t rfl h))
theorem sa_re1 {post : Int32 → Prop} (hs : s < 4) (h2 : a2 s = 0) (hk : ∀ ψ : Int32 → Prop, ψ 1 → wpX_isKnown ψ (a1, a2, a3, a4, a5, a6) (nI s) 0) (h : post (a6 (13 * s))) : wpX_readable post (a1, a2, a3, a4, a5, a6) (nI s) := by
  unfold wpX_readable
  refine sa_st hs (br_f (by decide) ⟨pk_in s 4 hs, ?_⟩)
  rw [nI_clamp (show s < 2 ^ 31 by omega), h2]
  refine nm_e (hk _ (br_f (by decide) ?_))
  rw [sa_13, nI_clamp (show 13 * s < 2 ^ 31 by omega), sa_sub0]
  exact ⟨pk_in (13 * s) 52 (by omega), h⟩
/-! gap 0 -/
theorem sa_gaN {post : Int32 → Prop} {x y : Int32} (hx : x < 0 ∨ 3 < x) (h : post (-1)) : wpX_gap post (a1, a2, a3, a4, a5, a6) x y := by
  unfold wpX_gap
  exact sa_sn hx (br_t rfl h)
theorem sa_hiN {post : Int32 → Prop} {x : Int32} (hx : x < 0 ∨ 3 < x) (h : post (-1)) : wpX_highest post (a1, a2, a3, a4, a5, a6) x := by
  unfold wpX_highest
  exact sa_sn hx (br_t rfl h)
theorem sa_gs {post : Int32 → Prop} {k v : Int32} (hs : s < 4) (h2 : a2 s = 0) (hk : ∀ ψ : Int32 → Prop, ψ k → wpX_isKnown ψ (a1, a2, a3, a4, a5, a6) (nI s) 0) (k01 : k = 0 ∨ k = 1)
    (hl : ∀ ψ : Int32 → Prop, ψ v → wpX_lastKnown ψ (a1, a2, a3, a4, a5, a6) (nI s)) (hh : ∀ ψ : Int32 → Prop, ψ v → wpX_highest ψ (a1, a2, a3, a4, a5, a6) (nI s))
    (h : post (a4 s - k + 0)) : wpX_gaps post (a1, a2, a3, a4, a5, a6) (nI s) := by
  have T : wX_gaps_34 post (nI s) k (a4 s) a1 a2 a3 a4 a5 a6 := by
    unfold wX_gaps_34
    exact nm_e (hl _ (hh _ (br_t (Int32.le_refl v) h)))
  unfold wpX_gaps
  refine sa_st hs (br_f (by decide) ⟨pk_in s 4 hs, pk_in s 4 hs, ?_⟩)
  rw [nI_clamp (show s < 2 ^ 31 by omega), h2]
  refine hk _ ?_
  rcases k01 with e | e
  · subst e
    exact br_t rfl T
  · subst e
    exact br_f (by decide) T
theorem sa_ga4 {post : Int32 → Prop} {k v : Int32} (hs : s < 4) (h2 : a2 s = 0) (hk : ∀ ψ : Int32 → Prop, ψ k → wpX_isKnown ψ (a1, a2, a3, a4, a5, a6) (nI s) 0) (k01 : k = 0 ∨ k = 1)
    (hl : ∀ ψ : Int32 → Prop, ψ v → wpX_lastKnown ψ (a1, a2, a3, a4, a5, a6) (nI s)) (hh : ∀ ψ : Int32 → Prop, ψ v → wpX_highest ψ (a1, a2, a3, a4, a5, a6) (nI s))
    (h4 : a4 s = k) (h : post (-4)) : wpX_gap post (a1, a2, a3, a4, a5, a6) (nI s) 0 := by
  unfold wpX_gap
  refine sa_st hs (br_f (by decide) (br_f (by decide) (sa_gs hs h2 hk k01 hl hh (br_f ?_ h))))
  rw [h4]
  rcases k01 with e | e
  · subst e
    decide
  · subst e
    decide
theorem sa_ga0 {post : Int32 → Prop} {v : Int32} (hs : s < 4) (h2 : a2 s = 0) (hk : ∀ ψ : Int32 → Prop, ψ 0 → wpX_isKnown ψ (a1, a2, a3, a4, a5, a6) (nI s) 0)
    (hl : ∀ ψ : Int32 → Prop, ψ v → wpX_lastKnown ψ (a1, a2, a3, a4, a5, a6) (nI s)) (hh : ∀ ψ : Int32 → Prop, ψ v → wpX_highest ψ (a1, a2, a3, a4, a5, a6) (nI s))
    (h4 : a4 s = 1) (h : post 0) : wpX_gap post (a1, a2, a3, a4, a5, a6) (nI s) 0 := by
  unfold wpX_gap
  refine sa_st hs (br_f (by decide) (br_f (by decide) (sa_gs hs h2 hk (Or.inl rfl) hl hh (br_t (by rw [h4]; decide) ⟨pk_in s 4 hs, ?_⟩))))
  rw [nI_clamp (show s < 2 ^ 31 by omega), h2]
  refine hk _ (br_t rfl ?_)
  unfold wX_gap_45
  rw [nI_clamp (show s < 2 ^ 31 by omega), h2]
  exact nm_e (br_t (by decide) ⟨pk_in s 4 hs, h⟩)
/-! read, complete -/
theorem sa_rdN {post : Int32 → St2 → Prop} {x : Int32} (hx : x < 0 ∨ 3 < x) (h : post (-1) (a1, a2, a3, a4, a5, a6)) : wpX_read post (a1, a2, a3, a4, a5, a6) x := by
  unfold wpX_read
  exact sa_sn hx (br_t rfl h)
theorem sa_rd4 {post : Int32 → St2 → Prop} (hs : s < 4) (h2 : a2 s = 0) (h3 : a3 s = -1) (hk : ∀ ψ : Int32 → Prop, ψ 0 → wpX_isKnown ψ (a1, a2, a3, a4, a5, a6) (nI s) 0) (h : post (-4) (a1, a2, a3, a4, a5, a6)) : wpX_read post (a1, a2, a3, a4, a5, a6) (nI s) := by
  unfold wpX_read
  refine sa_st hs (br_f (by decide) ⟨pk_in s 4 hs, ?_⟩)
  rw [nI_clamp (show s < 2 ^ 31 by omega), h2, h3]
  exact nm_e ⟨pk_in s 4 hs, br_f (by decide) (hk _ (br_t rfl h))⟩
theorem sa_rd91 {post : Int32 → St2 → Prop} (hs : s < 4) (h : post (a1 (32 * s)) (a1, a2, a3, a4, a5, a6)) : wX_read_91 post (nI s) 0 a1 a2 a3 a4 a5 a6 := by
  have e : (32 : Int32) * nI s + ((0 : Int32) &&& 31) = nI (32 * s) := sa_32 (s := s) (i := 0) (by decide)
  unfold wX_read_91
  rw [e, nI_clamp (show 32 * s < 2 ^ 31 by omega)]
  exact ⟨pk_in (32 * s) 128 (by omega), h⟩
theorem sa_rd1 {post : Int32 → St2 → Prop} (hs : s < 4) (h2 : a2 s = 0) (h3 : a3 s = -1) (h4 : a4 s = 1) (hk : ∀ ψ : Int32 → Prop, ψ 1 → wpX_isKnown ψ (a1, a2, a3, a4, a5, a6) (nI s) 0)
    (h : ∀ c4 c5 : Nat → Int32, post (a1 (32 * s)) (a1, upd a2 s 1, a3, c4, c5, a6)) : wpX_read post (a1, a2, a3, a4, a5, a6) (nI s) := by
  unfold wpX_read
  refine sa_st hs (br_f (by decide) ⟨pk_in s 4 hs, ?_⟩)
  rw [nI_clamp (show s < 2 ^ 31 by omega), h2, h3, sa_13, nI_clamp (show 13 * s < 2 ^ 31 by omega)]
  refine nm_e ⟨pk_in s 4 hs, br_f (by decide) (hk _ (br_f (by decide) ⟨pk_in s 4 hs, nm_r (show upd a2 s (0 + 1) = upd a2 s 1 from rfl) ⟨pk_in (13 * s) 52 (by omega), pk_in (13 * s) 52 (by omega), nm_e ⟨pk_in (13 * s) 52 (by omega), pk_in (13 * s) 52 (by omega), br_c (fun _ => ?_) (fun _ => ?_)⟩⟩⟩))⟩
  · exact sa_drop hs h4 (sa_rd91 hs (h _ _))
  · exact sa_rd91 hs (h _ _)
theorem sa_coN {post : Int32 → Prop} {x : Int32} (hx : x < 0 ∨ 3 < x) (h : post (-1)) : wpX_complete post (a1, a2, a3, a4, a5, a6) x := by
  unfold wpX_complete
  exact sa_sn hx (br_t rfl h)
theorem sa_co {post : Int32 → Prop} (hs : s < 4) (h2 : ¬ a3 s = a2 s) (h : post 0) : wpX_complete post (a1, a2, a3, a4, a5, a6) (nI s) := by
  unfold wpX_complete
  refine sa_st hs (br_f (by decide) ⟨pk_in s 4 hs, pk_in s 4 hs, ?_⟩)
  rw [nI_clamp (show s < 2 ^ 31 by omega)]
  exact br_f h2 h
end
end
section
section
variable {a1 a2 a3 a4 a5 a6 : Nat → Int32} {s o t l : Nat} {b : Int32} {post : Int32 → St0 → Prop} {mc ms kc ks : Nat} {x1 x2 x3 x7 z : Int32}
/-! the law's checks behind piece: no stream; nothing known; a range from 0; a range from above 0 -/
theorem sa_tN {x0 : Int32} (hx : x0 < 0 ∨ 3 < x0) (h : post 1 ()) : wL_lawOf_107 post mc ms x0 x1 x2 x3 0 x7 z z kc ks a1 a2 a3 a4 a5 a6 :=
  br_t rfl (sa_hiN hx (br_t rfl (br_t rfl (sa_reN hx (br_t rfl (br_t rfl (sa_gaN hx (br_t rfl (br_t rfl (sa_rdN hx (br_t rfl (br_t rfl (sa_coN hx (br_t rfl (br_t rfl h)))))))))))))))
theorem sa_tF (hs : s < 4) (f : sa_F a2 a3 a4) (h : post 1 ()) : wL_lawOf_107 post mc ms (nI s) x1 x2 x3 1 0 z z kc ks a1 a2 a3 a4 a5 a6 := by
  obtain ⟨h2, h3, h4⟩ := f s hs
  have kA : ∀ ψ : Int32 → Prop, ψ 0 → wpX_isKnown ψ (a1, a2, a3, a4, a5, a6) (nI s) 0 := fun ψ g => sa_kA hs h4 g
  refine br_t rfl (sa_hiF hs h2 h3 h4 (br_f (by decide) (br_t rfl (br_t rfl ?_))))
  refine sa_re0 hs h2 kA (br_f (by decide) (br_t rfl (br_t rfl ?_)))
  refine sa_ga4 (v := 0) hs h2 kA (Or.inl rfl) (fun ψ g => sa_laF hs h2 h4 g) (fun ψ g => sa_hiF hs h2 h3 h4 g) h4 (br_f (by decide) (br_t rfl (br_t rfl ?_)))
  refine sa_rd4 hs h2 h3 kA (br_f (by decide) (br_t rfl (br_t rfl ?_)))
  exact sa_co hs (by rw [h2, h3]; decide) (br_f (by decide) (br_t rfl h))
theorem sa_t0 (hs : s < 4) (l1 : 1 ≤ l) (l4 : l ≤ 4) (r : sa_R s 0 (0 + l) b a1 a2 a3 a4 a5 a6) (h : post 1 ()) : wL_lawOf_107 post mc ms (nI s) (nI 0) (nI l) b 1 1 z z kc ks a1 a2 a3 a4 a5 a6 := by
  obtain ⟨h2, h3, h4, h5, h6, hb⟩ := r
  have h6' : a6 (13 * s) = nI l := by rw [h6, Nat.zero_add]
  have kB : ∀ ψ : Int32 → Prop, ψ 1 → wpX_isKnown ψ (a1, a2, a3, a4, a5, a6) (nI s) 0 := fun ψ g => sa_kB hs h4 h5 h6' (by omega) (by omega) g
  refine br_t rfl (sa_hiR hs h3 h4 (br_f (by decide) (br_f (by decide) (br_t (by rw [h6, nI_add]) ?_))))
  refine sa_re1 hs h2 kB (br_f (by decide) (br_f (by decide) (br_t (by decide) (br_t h6' ?_))))
  refine sa_ga4 (v := a6 (13 * s)) hs h2 kB (Or.inr rfl) (fun ψ g => sa_laR hs h4 g) (fun ψ g => sa_hiR hs h3 h4 g) h4 (br_f (by decide) (br_f (by decide) (br_t (by decide) (br_t rfl ?_))))
  refine sa_rd1 hs h2 h3 h4 kB (fun c4 c5 => br_f (by decide) (br_f (by decide) (br_t (by decide) (br_t (hb rfl) ?_))))
  exact sa_co hs (by rw [pk_us, h3]; decide) (br_f (by decide) (br_t rfl h))
theorem sa_t1 (hs : s < 4) (l1 : 1 ≤ l) (l4 : l ≤ 4) (o1 : 0 < o) (o2 : o ≤ 24) (r : sa_R s o (o + l) b a1 a2 a3 a4 a5 a6) (h : post 1 ()) : wL_lawOf_107 post mc ms (nI s) (nI o) (nI l) b 1 1 z z kc ks a1 a2 a3 a4 a5 a6 := by
  obtain ⟨h2, h3, h4, h5, h6, _⟩ := r
  have n0 : ¬ nI o = 0 := nI_ne0 o1 (by omega)
  have kC : ∀ ψ : Int32 → Prop, ψ 0 → wpX_isKnown ψ (a1, a2, a3, a4, a5, a6) (nI s) 0 := fun ψ g => sa_kC hs h4 h5 o1 (by omega) g
  refine br_t rfl (sa_hiR hs h3 h4 (br_f (by decide) (br_f (by decide) (br_t (by rw [h6, nI_add]) ?_))))
  refine sa_re0 hs h2 kC (br_f (by decide) (br_f (by decide) (br_f n0 (br_t rfl ?_))))
  refine sa_ga0 (v := a6 (13 * s)) hs h2 kC (fun ψ g => sa_laR hs h4 g) (fun ψ g => sa_hiR hs h3 h4 g) h4 (br_f (by decide) (br_f (by decide) (br_f (nI_nle o1 (by omega)) (br_t rfl ?_))))
  refine sa_rd4 hs h2 h3 kC (br_f (by decide) (br_f (by decide) (br_f n0 (br_t rfl ?_))))
  exact sa_co hs (by rw [h2, h3]; decide) (br_f (by decide) (br_t rfl h))
theorem sa_init {q : St2 → Prop} (H : ∀ c3 : Nat → Int32, sa_F (fun _ => 0) c3 (fun _ => 0) → q (fun _ => 0, fun _ => 0, c3, fun _ => 0, fun _ => 0, fun _ => 0)) : wpX_init q 6 244 () := by
  refine ⟨by decide, by decide, by decide, by decide, by decide, by decide, by decide, by decide, by decide, by decide, by decide, by decide, ?_⟩
  refine pk_loop (σ := Nat → Int32) (fun n i c => wX_init_52 q 6 244 6 244 n (nI i) (fun _ => 0) (fun _ => 0) c (fun _ => 0) (fun _ => 0) (fun _ => 0)) (fun i c => ∀ j, j < i → c j = -1) 4 0 (fun _ => 0) (by omega) (fun j hj => absurd hj (by omega)) ?_ ?_
  · intro n c h
    exact pk_le 4 4 (fun _ => H c (fun j hj => ⟨rfl, h j hj, rfl⟩)) (fun z => absurd z (by omega))
  · intro n i c hi h hw
    refine pk_le 4 i (fun z => absurd z (by omega)) (fun _ => ⟨pk_in i 4 hi, nm_e (nm_r (nI_1 i) (hw _ ?_))⟩)
    intro j hj
    rw [nI_clamp (show i < 2 ^ 31 by omega)]
    by_cases e : j = i
    · rw [e, pk_us]
    · rw [pk_un e]
      exact h j (by omega)
/-! the law's flags, then piece -/
theorem sa_75B {x0 x5 : Int32} (hb : (x0 < 0 ∨ 3 < x0) ∨ x2 < 1 ∨ 4 < x2 ∨ x1 < 0 ∨ 1000 < x1) (h : wL_lawOf_107 post mc ms x0 x1 x2 x3 x5 0 (-1) (-1) kc ks a1 a2 a3 a4 a5 a6) : wL_lawOf_75 post mc ms x0 x1 x2 x3 x5 0 kc ks a1 a2 a3 a4 a5 a6 := by
  unfold wL_lawOf_75 wL_lawOf_76
  exact sa_pcBad hb (br_t rfl h)
theorem sa_23 {p1 p2 p3 : Int32} (hs : s < 4) (f : sa_F a2 a3 a4) (h : post 1 ()) : wL_lawOf_23 post mc ms (nI s) p1 p2 p3 1 kc ks a1 a2 a3 a4 a5 a6 := by
  by_cases hb : p2 < 1 ∨ 4 < p2 ∨ p1 < 0 ∨ 1000 < p1
  · have B : wL_lawOf_55 post mc ms (nI s) p1 p2 p3 1 kc ks a1 a2 a3 a4 a5 a6 := br_t rfl (sa_75B (Or.inr hb) (sa_tF hs f h))
    exact br_f (by decide) (br_c (fun _ => B) (fun z1 => br_c (fun _ => B) (fun z2 => br_c (fun _ => B) (fun z3 => br_t (((hb.resolve_left z1).resolve_left z2).resolve_left z3) B))))
  · have z1 : ¬ p2 < 1 := fun z => hb (Or.inl z)
    have z2 : ¬ 4 < p2 := fun z => hb (Or.inr (Or.inl z))
    have z3 : ¬ p1 < 0 := fun z => hb (Or.inr (Or.inr (Or.inl z)))
    have z4 : ¬ 1000 < p1 := fun z => hb (Or.inr (Or.inr (Or.inr z)))
    refine br_f (by decide) (br_f z1 (br_f z2 (br_f z3 (br_f z4 (br_f (by decide) ?_)))))
    have z5 : ¬ p2 < 0 := fun z => z1 (Int32.lt_trans z (by decide))
    obtain ⟨l, l4, el⟩ := nI_of2 (M := 4) (n := 4) (by decide) z5 (Int32.not_lt.mp z2)
    obtain ⟨o, o4, eo⟩ := nI_of2 (M := 1000) (n := 1000) (by decide) z3 (Int32.not_lt.mp z4)
    subst el
    subst eo
    have l1 : 1 ≤ l := by
      rcases Nat.lt_or_ge l 1 with g | g
      · exact absurd (nI_lt (b := 1) g (by decide)) z1
      · exact g
    refine pk_lt 24 (o + l) (fun g => ?_) (fun g => ?_) (hy := nI_add o l)
    · unfold wL_lawOf_75 wL_lawOf_76
      exact sa_pcFl hs f l1 l4 o4 g (br_f (by decide) (br_t rfl (sa_tF hs f h)))
    · unfold wL_lawOf_76
      refine sa_pcOk hs f l1 l4 g (fun c hc => br_f (by decide) (br_f (by decide) ?_))
      have r : sa_R s o (o + l) p3 c a2 a3 (upd a4 s 1) (upd a5 (13 * s) (nI o)) (upd a6 (13 * s) (nI (o + l))) := ⟨(f s hs).1, (f s hs).2.1, pk_us, pk_us, pk_us, hc⟩
      rcases Nat.eq_zero_or_pos o with e | e
      · subst e
        exact sa_t0 hs l1 l4 r h
      · exact sa_t1 hs l1 l4 e (by omega) r h
end
theorem sa_lawOf (post : Int32 → St0 → Prop) (p0 p1 p2 p3 : Int32) (h : post 1 ()) : wpL_lawOf post 7 250 () p0 p1 p2 p3 := by
  refine ⟨by decide, by decide, 6, 244, by decide, by decide, sa_init (fun c3 f => ?_)⟩
  by_cases hx : p0 < 0 ∨ 3 < p0
  · have N : ∀ kc ks, wL_lawOf_22 post 7 250 p0 p1 p2 p3 kc ks (fun _ => 0) (fun _ => 0) c3 (fun _ => 0) (fun _ => 0) (fun _ => 0) := fun kc ks => br_t rfl (br_t rfl (sa_75B (Or.inl hx) (sa_tN hx h)))
    exact br_c (fun _ => N _ _) (fun z => br_t (hx.resolve_left z) (N _ _))
  · have z0 : ¬ p0 < 0 := fun z => hx (Or.inl z)
    have z3 : ¬ 3 < p0 := fun z => hx (Or.inr z)
    obtain ⟨s, s3, es⟩ := nI_of2 (M := 3) (n := 3) (by decide) z0 (Int32.not_lt.mp z3)
    subst es
    exact br_f z0 (br_f z3 (sa_23 (by omega) f h))
theorem sa_cell {post : Int32 → Prop} {L : Nat} {xs : Nat → Int32} {k : Nat} (hL : L ≤ 4) (hk : k < 4) (h : ∀ x, post x) : wpL_cellAt post L xs () (nI k) :=
  pk_le L k (fun _ => h _) (fun z => ⟨pk_in k L z, h _⟩)
theorem i_vc (xs : Nat → Int32) (L : Nat) (hL : L ≤ 4) : wpL_law (fun r => r = 1) L xs := by
  unfold wpL_law
  refine sa_cell (k := 0) hL (by decide) (fun r1 => sa_cell (k := 1) hL (by decide) (fun r2 => sa_cell (k := 2) hL (by decide) (fun r3 => sa_cell (k := 3) hL (by decide) (fun r4 => ?_))))
  exact ⟨7, 250, by decide, by decide, sa_lawOf _ r1 r2 r3 r4 rfl⟩
end
