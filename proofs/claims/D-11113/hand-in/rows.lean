section
/-! the three places that the law reaches: 0, 1, 2; one turn of each loop -/
theorem rb_i0 : vp_in 0 49 := vp_in_iff.mpr (by decide)
theorem rb_i1 : vp_in 1 49 := vp_in_iff.mpr (by decide)
theorem rb_i2 : vp_in 2 49 := vp_in_iff.mpr (by decide)
theorem rb_s0 : ¬ (48 : Int32) ≤ 0 := by decide
theorem rb_s1 : ¬ (48 : Int32) ≤ 0 + 1 := by decide
theorem rb_s2 : ¬ (48 : Int32) ≤ 0 + 1 + 1 := by decide
theorem rb_00 : (0 : Int32) ≤ 0 := by decide
theorem rb_p1 : ¬ (1 : Int32) ≤ 0 := by decide
theorem rb_p2 : ¬ (2 : Int32) ≤ 0 := by decide
theorem rb_n1 : ¬ (1 : Int32) = 0 := by decide
theorem rb_n2 : ¬ (2 : Int32) = 0 := by decide
theorem rb_t0 : (0 : Int32).toInt64 = 0 := by decide
theorem rb_max (x : Int32) : x ≤ 2147483647 := by
  rw [Int32.le_iff_toInt_le]
  have h := Int32.toInt_lt x
  have e : (2147483647 : Int32).toInt = 2147483647 := by decide
  rw [e]
  omega
theorem rb_min (x : Int32) : (-2147483648) ≤ x := by
  rw [Int32.le_iff_toInt_le]
  have h := Int32.le_toInt x
  have e : (-2147483648 : Int32).toInt = -2147483648 := by decide
  rw [e]
  omega
theorem rb_lt {x y : Int32} (h : ¬ y ≤ x) : x < y := by
  rw [Int32.le_iff_toInt_le] at h
  rw [Int32.lt_iff_toInt_lt]
  omega
theorem rb_nle {x y : Int32} (h : x < y) : ¬ y ≤ x := by
  rw [Int32.lt_iff_toInt_lt] at h
  rw [Int32.le_iff_toInt_le]
  omega
theorem rb_nlt {x y : Int32} (h : x ≤ y) : ¬ y < x := by
  rw [Int32.le_iff_toInt_le] at h
  rw [Int32.lt_iff_toInt_lt]
  omega
theorem rb_ltle {x y : Int32} (h : x < y) : x ≤ y := by
  rw [Int32.lt_iff_toInt_lt] at h
  rw [Int32.le_iff_toInt_le]
  omega
theorem rb_rf (x : Int32) : x ≤ x := by
  rw [Int32.le_iff_toInt_le]
  omega
theorem rb_ne {x y : Int32} (h : x < y) : ¬ x = y := by
  intro e
  rw [e, Int32.lt_iff_toInt_lt] at h
  omega
theorem rb_sep {x y : Int32} (h : x ≤ y) (n : ¬ x = y) : x < y := by
  rw [Int32.le_iff_toInt_le] at h
  rw [Int32.lt_iff_toInt_lt]
  have n' : ¬ x.toInt = y.toInt := fun e => n (Int32.toInt_inj.mp e)
  omega
theorem rb_tr {x y z : Int32} (h : x < y) (g : y ≤ z) : x < z := by
  rw [Int32.lt_iff_toInt_lt] at h
  rw [Int32.le_iff_toInt_le] at g
  rw [Int32.lt_iff_toInt_lt]
  omega
section
variable {r f c : Int32} {a1 a2 a3 a4 a5 a6 a7 : Nat → Int32} {a8 : Nat → Int64}
/-! find -/
theorem rb_fd0 {post : Int32 → Prop} {k st : Int32} {n : Nat} (hs : ¬ 48 ≤ st) (hp : post 0) : wX_find_7 post k r f c a1 a2 a3 a4 a5 a6 a7 a8 (n + 1) 0 st :=
  br_f hs (br_t rb_00 hp)
theorem rb_fdH {post : Int32 → Prop} {k st t : Int32} {n : Nat} (hs : ¬ 48 ≤ st) (ht : ¬ t ≤ 0) (hi : vp_in t 49) (he : a5 t.toNatClampNeg = k) (hp : post t) : wX_find_7 post k r f c a1 a2 a3 a4 a5 a6 a7 a8 (n + 1) t st :=
  br_f hs (br_f ht ⟨hi, br_t he hp⟩)
theorem rb_fdR {post : Int32 → Prop} {k st t q e : Int32} {n : Nat} (hs : ¬ 48 ≤ st) (ht : ¬ t ≤ 0) (hi : vp_in t 49) (h5 : a5 t.toNatClampNeg = e) (h2 : a2 t.toNatClampNeg = q) (hn : ¬ e = k) (hl : e ≤ k) (hw : wX_find_7 post k r f c a1 a2 a3 a4 a5 a6 a7 a8 n q (st + 1)) : wX_find_7 post k r f c a1 a2 a3 a4 a5 a6 a7 a8 (n + 1) t st := by
  subst h5 h2
  exact br_f hs (br_f ht ⟨hi, br_f hn ⟨hi, br_t hl ⟨hi, nm_e (nm_e hw)⟩⟩⟩)
theorem rb_fdL {post : Int32 → Prop} {k st t q e : Int32} {n : Nat} (hs : ¬ 48 ≤ st) (ht : ¬ t ≤ 0) (hi : vp_in t 49) (h5 : a5 t.toNatClampNeg = e) (h1 : a1 t.toNatClampNeg = q) (hn : ¬ e = k) (hl : ¬ e ≤ k) (hw : wX_find_7 post k r f c a1 a2 a3 a4 a5 a6 a7 a8 n q (st + 1)) : wX_find_7 post k r f c a1 a2 a3 a4 a5 a6 a7 a8 (n + 1) t st := by
  subst h5 h1
  exact br_f hs (br_f ht ⟨hi, br_f hn ⟨hi, br_f hl ⟨hi, nm_e (nm_e hw)⟩⟩⟩)
/-! sumBelow -/
theorem rb_sb0 {post : Int64 → Prop} {k st : Int32} {s : Int64} {n : Nat} (hs : ¬ 48 ≤ st) (hp : post s) : wX_sumBelow_11 post k r f c a1 a2 a3 a4 a5 a6 a7 a8 (n + 1) s 0 st :=
  br_f hs (br_t rb_00 hp)
theorem rb_sbL {post : Int64 → Prop} {k st t q e : Int32} {s : Int64} {n : Nat} (hs : ¬ 48 ≤ st) (ht : ¬ t ≤ 0) (hi : vp_in t 49) (h5 : a5 t.toNatClampNeg = e) (h1 : a1 t.toNatClampNeg = q) (hl : k ≤ e) (hw : wX_sumBelow_11 post k r f c a1 a2 a3 a4 a5 a6 a7 a8 n s q (st + 1)) : wX_sumBelow_11 post k r f c a1 a2 a3 a4 a5 a6 a7 a8 (n + 1) s t st := by
  subst h5 h1
  exact br_f hs (br_f ht ⟨hi, br_t hl ⟨hi, nm_e (nm_e hw)⟩⟩)
theorem rb_sbR {post : Int64 → Prop} {k st t l q e v : Int32} {s u : Int64} {n : Nat} (hs : ¬ 48 ≤ st) (ht : ¬ t ≤ 0) (hi : vp_in t 49) (h5 : a5 t.toNatClampNeg = e) (h1 : a1 t.toNatClampNeg = l) (li : vp_in l 49) (h2 : a2 t.toNatClampNeg = q) (h6 : a6 t.toNatClampNeg = v) (h8 : a8 l.toNatClampNeg = u) (hl : ¬ k ≤ e) (hw : wX_sumBelow_11 post k r f c a1 a2 a3 a4 a5 a6 a7 a8 n (s + (u + v.toInt64)) q (st + 1)) : wX_sumBelow_11 post k r f c a1 a2 a3 a4 a5 a6 a7 a8 (n + 1) s t st := by
  subst h5 h1 h2 h6 h8
  exact br_f hs (br_f ht ⟨hi, br_f hl ⟨hi, li, hi, nm_e ⟨hi, nm_e (nm_e hw)⟩⟩⟩)
/-! below -/
theorem rb_be0 {post : Int32 → Prop} {k st s : Int32} {n : Nat} (hs : ¬ 48 ≤ st) (hp : post s) : wX_below_10 post k r f c a1 a2 a3 a4 a5 a6 a7 a8 (n + 1) s 0 st :=
  br_f hs (br_t rb_00 hp)
theorem rb_beL {post : Int32 → Prop} {k st t q e s : Int32} {n : Nat} (hs : ¬ 48 ≤ st) (ht : ¬ t ≤ 0) (hi : vp_in t 49) (h5 : a5 t.toNatClampNeg = e) (h1 : a1 t.toNatClampNeg = q) (hl : k ≤ e) (hw : wX_below_10 post k r f c a1 a2 a3 a4 a5 a6 a7 a8 n s q (st + 1)) : wX_below_10 post k r f c a1 a2 a3 a4 a5 a6 a7 a8 (n + 1) s t st := by
  subst h5 h1
  exact br_f hs (br_f ht ⟨hi, br_t hl ⟨hi, nm_e (nm_e hw)⟩⟩)
theorem rb_beR {post : Int32 → Prop} {k st t l q e s u : Int32} {n : Nat} (hs : ¬ 48 ≤ st) (ht : ¬ t ≤ 0) (hi : vp_in t 49) (h5 : a5 t.toNatClampNeg = e) (h1 : a1 t.toNatClampNeg = l) (li : vp_in l 49) (h2 : a2 t.toNatClampNeg = q) (h7 : a7 l.toNatClampNeg = u) (hl : ¬ k ≤ e) (hw : wX_below_10 post k r f c a1 a2 a3 a4 a5 a6 a7 a8 n (s + (u + 1)) q (st + 1)) : wX_below_10 post k r f c a1 a2 a3 a4 a5 a6 a7 a8 (n + 1) s t st := by
  subst h5 h1 h2 h7
  exact br_f hs (br_f ht ⟨hi, br_f hl ⟨hi, li, nm_e ⟨hi, nm_e (nm_e hw)⟩⟩⟩)
/-! ceiling -/
theorem rb_ce0 {post : Int32 → Prop} {k st s : Int32} {n : Nat} (hs : ¬ 48 ≤ st) (hp : post s) : wX_ceiling_10 post k r f c a1 a2 a3 a4 a5 a6 a7 a8 (n + 1) s 0 st :=
  br_f hs (br_t rb_00 hp)
theorem rb_ceL {post : Int32 → Prop} {k st t q e s : Int32} {n : Nat} (hs : ¬ 48 ≤ st) (ht : ¬ t ≤ 0) (hi : vp_in t 49) (h5 : a5 t.toNatClampNeg = e) (h1 : a1 t.toNatClampNeg = q) (hl : ¬ e < k) (hw : wX_ceiling_10 post k r f c a1 a2 a3 a4 a5 a6 a7 a8 n t q (st + 1)) : wX_ceiling_10 post k r f c a1 a2 a3 a4 a5 a6 a7 a8 (n + 1) s t st := by
  subst h5 h1
  exact br_f hs (br_f ht ⟨hi, br_f hl ⟨hi, nm_e (nm_e hw)⟩⟩)
/-! nodeBehind: no right part and nothing above; from the left of the one above; the right part's first -/
theorem rb_nbU {post : Int32 → Prop} {t : Int32} (hi : vp_in t 49) (h2 : a2 t.toNatClampNeg = 0) (h3 : a3 t.toNatClampNeg = 0) (hp : post 0) : wpX_nodeBehind post (r, f, c, a1, a2, a3, a4, a5, a6, a7, a8) t := by
  have g2 : a2 t.toNatClampNeg ≤ 0 := by rw [h2]; exact rb_00
  have g3 : a3 t.toNatClampNeg ≤ 0 := by rw [h3]; exact rb_00
  rw [← h3] at hp
  exact ⟨hi, br_t g2 ⟨1, br_f rb_s0 ⟨hi, br_t g3 ⟨hi, hp⟩⟩⟩⟩
theorem rb_nbP {post : Int32 → Prop} {t p : Int32} (hi : vp_in t 49) (h2 : a2 t.toNatClampNeg = 0) (h3 : a3 t.toNatClampNeg = p) (p0 : ¬ p ≤ 0) (pi : vp_in p 49) (hq : ¬ a2 p.toNatClampNeg = t) (hp : post p) : wpX_nodeBehind post (r, f, c, a1, a2, a3, a4, a5, a6, a7, a8) t := by
  have g2 : a2 t.toNatClampNeg ≤ 0 := by rw [h2]; exact rb_00
  subst h3
  exact ⟨hi, br_t g2 ⟨1, br_f rb_s0 ⟨hi, br_f p0 ⟨hi, pi, br_f hq ⟨hi, hp⟩⟩⟩⟩⟩
theorem rb_nbR {post : Int32 → Prop} {t q : Int32} (hi : vp_in t 49) (h2 : a2 t.toNatClampNeg = q) (q0 : ¬ q ≤ 0) (qi : vp_in q 49) (h1 : a1 q.toNatClampNeg = 0) (hp : post q) : wpX_nodeBehind post (r, f, c, a1, a2, a3, a4, a5, a6, a7, a8) t := by
  have g1 : a1 q.toNatClampNeg ≤ 0 := by rw [h1]; exact rb_00
  subst h2
  exact ⟨hi, br_f q0 ⟨hi, ⟨1, br_f rb_s0 ⟨qi, br_t g1 hp⟩⟩⟩⟩
/-! nodeBefore -/
theorem rb_nfP {post : Int32 → Prop} {t p : Int32} (hi : vp_in t 49) (h1 : a1 t.toNatClampNeg = 0) (h3 : a3 t.toNatClampNeg = p) (p0 : ¬ p ≤ 0) (pi : vp_in p 49) (hq : ¬ a1 p.toNatClampNeg = t) (hp : post p) : wpX_nodeBefore post (r, f, c, a1, a2, a3, a4, a5, a6, a7, a8) t := by
  have g1 : a1 t.toNatClampNeg ≤ 0 := by rw [h1]; exact rb_00
  subst h3
  exact ⟨hi, br_t g1 ⟨1, br_f rb_s0 ⟨hi, br_f p0 ⟨hi, pi, br_f hq ⟨hi, hp⟩⟩⟩⟩⟩
theorem rb_nfL {post : Int32 → Prop} {t q : Int32} (hi : vp_in t 49) (h1 : a1 t.toNatClampNeg = q) (q0 : ¬ q ≤ 0) (qi : vp_in q 49) (h2 : a2 q.toNatClampNeg = 0) (hp : post q) : wpX_nodeBefore post (r, f, c, a1, a2, a3, a4, a5, a6, a7, a8) t := by
  have g2 : a2 q.toNatClampNeg ≤ 0 := by rw [h2]; exact rb_00
  subst h1
  exact ⟨hi, br_f q0 ⟨hi, nm_e ⟨1, br_f rb_s0 ⟨qi, br_t g2 hp⟩⟩⟩⟩
/-! key, next -/
theorem rb_key {post : Int32 → Prop} {k : Int32} (hc : ¬ c = 0) (hi : vp_in c 49) (h5 : a5 c.toNatClampNeg = k) (hp : post k) : wpX_key post (r, f, c, a1, a2, a3, a4, a5, a6, a7, a8) := by
  subst h5
  exact br_f hc ⟨hi, hp⟩
theorem rb_next {post : Int32 → St2 → Prop} (hc : ¬ c = 0) (h : wpX_nodeBehind (fun q => (q ≤ 0 → post 0 (r, f, q, a1, a2, a3, a4, a5, a6, a7, a8)) ∧ (¬ q ≤ 0 → post 1 (r, f, q, a1, a2, a3, a4, a5, a6, a7, a8))) (r, f, c, a1, a2, a3, a4, a5, a6, a7, a8) c) : wpX_next post (r, f, c, a1, a2, a3, a4, a5, a6, a7, a8) :=
  br_f hc h
/-! refresh -/
theorem rb_re {post : St2 → Prop} {t l q v x y : Int32} {u w : Int64} (hi : vp_in t 49) (h1 : a1 t.toNatClampNeg = l) (li : vp_in l 49) (h2 : a2 t.toNatClampNeg = q) (qi : vp_in q 49) (h6 : a6 t.toNatClampNeg = v) (h7 : a7 l.toNatClampNeg = x) (g7 : a7 q.toNatClampNeg = y) (h8 : a8 l.toNatClampNeg = u) (g8 : a8 q.toNatClampNeg = w)
    (hp : post (r, f, c, a1, a2, a3, a4, a5, a6, upd a7 t.toNatClampNeg (x + y + 1), vp_updL a8 t.toNatClampNeg (u + w + v.toInt64))) : wpX_refresh post (r, f, c, a1, a2, a3, a4, a5, a6, a7, a8) t := by
  subst h1 h2 h6 h7 g7 h8 g8
  exact ⟨hi, li, hi, qi, hi, nm_e ⟨hi, li, hi, qi, hi, hi, nm_e hp⟩⟩
end
end
section
/-! the pictures: what the arrays hold at 0, 1, 2 -/
/-- one node: key k, value v -/
def rb_PA (k v : Int32) (a1 a2 a3 a4 a5 a6 a7 : Nat → Int32) (a8 : Nat → Int64) : Prop :=
  a1 1 = 0 ∧ a2 1 = 0 ∧ a3 1 = 0 ∧ a4 0 = 0 ∧ a4 1 = 0 ∧ a5 1 = k ∧ a6 0 = 0 ∧ a6 1 = v ∧ a7 0 = 0 ∧ a7 1 = 1 ∧ a8 0 = 0
/-- two nodes: 2 (key x, value v) is the left child of 1 (key y, value w) -/
def rb_PB (x v y w : Int32) (a1 a2 a3 a4 a5 a6 a7 : Nat → Int32) (a8 : Nat → Int64) : Prop :=
  a1 1 = 2 ∧ a1 2 = 0 ∧ a2 1 = 0 ∧ a2 2 = 0 ∧ a3 1 = 0 ∧ a3 2 = 1 ∧ a4 0 = 0 ∧ a4 1 = 0 ∧ a4 2 = 1 ∧ a5 1 = y ∧ a5 2 = x ∧ a6 0 = 0 ∧ a6 1 = w ∧ a6 2 = v ∧ a7 0 = 0 ∧ a8 0 = 0 ∧ a8 2 = v.toInt64
/-- two nodes: 2 (key x, value v) is the right child of 1 (key y, value w) -/
def rb_PC (x v y w : Int32) (a1 a2 a3 a4 a5 a6 a7 : Nat → Int32) (a8 : Nat → Int64) : Prop :=
  a1 1 = 0 ∧ a1 2 = 0 ∧ a2 1 = 2 ∧ a2 2 = 0 ∧ a3 1 = 0 ∧ a3 2 = 1 ∧ a4 0 = 0 ∧ a4 1 = 0 ∧ a4 2 = 1 ∧ a5 1 = y ∧ a5 2 = x ∧ a6 0 = 0 ∧ a6 1 = w ∧ a6 2 = v ∧ a7 0 = 0 ∧ a8 0 = 0
/-! the constructor -/
theorem rb_fill {s : Nat → Int32} {i : Nat} {x : Int32} (hi : i < 49) (h1 : 1 ≤ i) (h : 1 < i → s 1 = 2) (hx : i = 1 → x = 2) : upd s (nI i).toNatClampNeg x 1 = 2 := by
  rw [nI_clamp (show i < 2 ^ 31 by omega)]
  by_cases e : i = 1
  · rw [e, pk_us]
    exact hx e
  · rw [pk_un (show (1 : Nat) ≠ i by omega)]
    exact h (by omega)
theorem rb_init {post : St2 → Prop} (H : ∀ a3 : Nat → Int32, a3 1 = 2 → post (0, 1, 0, (fun _ => 0), (fun _ => 0), a3, (fun _ => 0), (fun _ => 0), (fun _ => 0), (fun _ => 0), (fun _ => 0))) : wpX_init post 8 392 (0, 0, 0) := by
  refine ⟨by decide, by decide, by decide, by decide, by decide, by decide, by decide, by decide, by decide, by decide, by decide, by decide, by decide, by decide, by decide, by decide, ?_⟩
  refine pk_loop (fun n i s => wX_init_70 post 8 392 8 392 0 0 0 n (nI i) (fun _ => 0) (fun _ => 0) s (fun _ => 0) (fun _ => 0) (fun _ => 0) (fun _ => 0) (fun _ => 0)) (fun i s => 1 ≤ i ∧ (1 < i → s 1 = 2)) 49 1 (fun _ => 0) (by omega) ⟨by omega, fun z => absurd z (by omega)⟩ ?_ ?_
  · intro n s h
    exact pk_le 49 49 (fun _ => H s (h.2 (by omega))) (fun z => absurd z (by omega))
  · intro n i s hi h hw
    refine pk_le 49 i (fun z => absurd z (by omega)) (fun _ => ?_)
    refine pk_eq i 48 (fun e => ⟨pk_in i 49 hi, nm_e (nm_r (nI_1 i) (hw _ ⟨by omega, fun _ => ?_⟩))⟩) (fun e => ⟨pk_in i 49 hi, nm_e (nm_r (nI_1 i) (hw _ ⟨by omega, fun _ => ?_⟩))⟩)
    · exact rb_fill hi h.1 h.2 (fun z => absurd z (by omega))
    · exact rb_fill hi h.1 h.2 (fun z => by rw [z]; rfl)
section
variable {r f c : Int32} {a1 a2 a3 a4 a5 a6 a7 : Nat → Int32} {a8 : Nat → Int64}
/-! refreshUp, settleAdded -/
theorem rb_ruS {post : St2 → Prop} {t l q v x y p st : Int32} {u w : Int64} {n : Nat} (hs : ¬ 48 ≤ st) (ht : ¬ t ≤ 0) (hi : vp_in t 49) (h1 : a1 t.toNatClampNeg = l) (li : vp_in l 49) (h2 : a2 t.toNatClampNeg = q) (qi : vp_in q 49) (h6 : a6 t.toNatClampNeg = v) (h7 : a7 l.toNatClampNeg = x) (g7 : a7 q.toNatClampNeg = y) (h8 : a8 l.toNatClampNeg = u) (g8 : a8 q.toNatClampNeg = w) (h3 : a3 t.toNatClampNeg = p)
    (hw : wX_refreshUp_4 post n p (st + 1) r f c a1 a2 a3 a4 a5 a6 (upd a7 t.toNatClampNeg (x + y + 1)) (vp_updL a8 t.toNatClampNeg (u + w + v.toInt64))) : wX_refreshUp_4 post (n + 1) t st r f c a1 a2 a3 a4 a5 a6 a7 a8 :=
  br_f hs (br_f ht (rb_re hi h1 li h2 qi h6 h7 g7 h8 g8 ⟨hi, nm_r h3 (nm_e hw)⟩))
theorem rb_sa {post : St2 → Prop} {t p : Int32} (hi : vp_in t 49) (h3 : a3 t.toNatClampNeg = p) (pi : vp_in p 49) (h4 : a4 p.toNatClampNeg = 0) (ri : vp_in r 49) (hp : post (r, f, c, a1, a2, a3, upd a4 r.toNatClampNeg 0, a5, a6, a7, a8)) : wpX_settleAdded post (r, f, c, a1, a2, a3, a4, a5, a6, a7, a8) t := by
  subst h3
  exact ⟨1, br_f rb_s0 ⟨hi, pi, br_t h4 ⟨ri, nm_e hp⟩⟩⟩
/-! put: one turn to the left, to the right; the end -/
theorem rb_puL {post : Int32 → St2 → Prop} {k v o t q e st : Int32} {n : Nat} (hs : ¬ 48 ≤ st) (ht : ¬ t ≤ 0) (hi : vp_in t 49) (h5 : a5 t.toNatClampNeg = e) (h1 : a1 t.toNatClampNeg = q) (hn : ¬ e = k) (hl : ¬ e ≤ k) (hw : wX_put_11 post k v r f c a1 a2 a3 a4 a5 a6 a7 a8 n t q (st + 1)) : wX_put_11 post k v r f c a1 a2 a3 a4 a5 a6 a7 a8 (n + 1) o t st := by
  subst h5 h1
  exact br_f hs (br_f ht ⟨hi, br_f hn ⟨hi, br_f hl ⟨hi, nm_e (nm_e hw)⟩⟩⟩)
theorem rb_puR {post : Int32 → St2 → Prop} {k v o t q e st : Int32} {n : Nat} (hs : ¬ 48 ≤ st) (ht : ¬ t ≤ 0) (hi : vp_in t 49) (h5 : a5 t.toNatClampNeg = e) (h2 : a2 t.toNatClampNeg = q) (hn : ¬ e = k) (hl : e ≤ k) (hw : wX_put_11 post k v r f c a1 a2 a3 a4 a5 a6 a7 a8 n t q (st + 1)) : wX_put_11 post k v r f c a1 a2 a3 a4 a5 a6 a7 a8 (n + 1) o t st := by
  subst h5 h2
  exact br_f hs (br_f ht ⟨hi, br_f hn ⟨hi, br_t hl ⟨hi, nm_e (nm_e hw)⟩⟩⟩)
theorem rb_puE {post : Int32 → St2 → Prop} {k v o st : Int32} {n : Nat} (hs : ¬ 48 ≤ st) (hw : wX_put_89 post k v o r f c a1 a2 a3 a4 a5 a6 a7 a8) : wX_put_11 post k v r f c a1 a2 a3 a4 a5 a6 a7 a8 (n + 1) o 0 st :=
  br_f hs (br_t rb_00 hw)
/-! what follows the hanging in: a root alone; node 2 under node 1 -/
theorem rb_205a {post : Int32 → St2 → Prop} (h1 : a1 1 = 0) (h2 : a2 1 = 0) (h3 : a3 1 = 0) (h4 : a4 0 = 0) (hp : ∀ (b7 : Nat → Int32) (b8 : Nat → Int64), b7 0 = a7 0 → b7 1 = a7 0 + a7 0 + 1 → b8 0 = a8 0 → post 1 (1, f, c, a1, a2, a3, upd a4 (1 : Int32).toNatClampNeg 0, a5, a6, b7, b8)) : wX_put_205 post 1 1 f c a1 a2 a3 a4 a5 a6 a7 a8 := by
  refine ⟨2, rb_ruS rb_s0 rb_p1 rb_i1 h1 rb_i0 h2 rb_i0 rfl rfl rfl rfl rfl h3 (br_f rb_s1 (br_t rb_00 ?_))⟩
  exact rb_sa rb_i1 h3 rb_i0 h4 rb_i1 (hp _ _ rfl rfl rfl)
theorem rb_205b {post : Int32 → St2 → Prop} {l q : Int32} (h12 : a1 2 = 0) (h22 : a2 2 = 0) (h32 : a3 2 = 1) (h11 : a1 1 = l) (li : vp_in l 49) (h21 : a2 1 = q) (qi : vp_in q 49) (h31 : a3 1 = 0) (h41 : a4 1 = 0) (hp : ∀ (b7 : Nat → Int32) (b8 : Nat → Int64), b7 0 = a7 0 → b8 0 = a8 0 → b8 2 = a8 0 + a8 0 + (a6 2).toInt64 → post 1 (1, f, c, a1, a2, a3, upd a4 (1 : Int32).toNatClampNeg 0, a5, a6, b7, b8)) : wX_put_205 post 2 1 f c a1 a2 a3 a4 a5 a6 a7 a8 := by
  refine ⟨3, rb_ruS rb_s0 rb_p2 rb_i2 h12 rb_i0 h22 rb_i0 rfl rfl rfl rfl rfl h32 (rb_ruS rb_s1 rb_p1 rb_i1 h11 li h21 qi rfl rfl rfl rfl rfl h31 (br_f rb_s2 (br_t rb_00 ?_)))⟩
  exact rb_sa rb_i2 h32 rb_i1 h41 rb_i1 (hp _ _ rfl rfl rfl)
/-! put into the map of one node -/
theorem rb_putA {post : Int32 → St2 → Prop} {x v w : Int32} (hA : rb_PA x w a1 a2 a3 a4 a5 a6 a7 a8) (hp : ∀ (b1 b2 b3 b4 b5 b6 b7 : Nat → Int32) (b8 : Nat → Int64), rb_PA x v b1 b2 b3 b4 b5 b6 b7 b8 → post 0 (1, f, c, b1, b2, b3, b4, b5, b6, b7, b8)) : wpX_put post (1, f, c, a1, a2, a3, a4, a5, a6, a7, a8) x v := by
  obtain ⟨h11, h21, h31, h40, h41, h51, h60, h61, h70, h71, h80⟩ := hA
  refine ⟨1, br_f rb_s0 (br_f rb_p1 ⟨rb_i1, br_t h51 ⟨rb_i1, nm_e ?_⟩⟩)⟩
  refine ⟨2, rb_ruS rb_s0 rb_p1 rb_i1 h11 rb_i0 h21 rb_i0 rfl h70 h70 h80 h80 h31 (br_f rb_s1 (br_t rb_00 ?_))⟩
  exact hp _ _ _ _ _ _ _ _ ⟨h11, h21, h31, h40, h41, h51, h60, rfl, h70, rfl, h80⟩
theorem rb_putB {post : Int32 → St2 → Prop} {x v y w : Int32} (hA : rb_PA y w a1 a2 a3 a4 a5 a6 a7 a8) (hxy : x < y) (hp : ∀ (g : Int32) (b1 b2 b3 b4 b5 b6 b7 : Nat → Int32) (b8 : Nat → Int64), rb_PB x v y w b1 b2 b3 b4 b5 b6 b7 b8 → post 1 (1, g, c, b1, b2, b3, b4, b5, b6, b7, b8)) : wpX_put post (1, 2, c, a1, a2, a3, a4, a5, a6, a7, a8) x v := by
  obtain ⟨h11, h21, h31, h40, h41, h51, h60, h61, h70, h71, h80⟩ := hA
  have hle : ¬ y ≤ x := rb_nle hxy
  have hle5 : ¬ a5 1 ≤ x := by rw [h51]; exact hle
  refine ⟨2, rb_puL rb_s0 rb_p1 rb_i1 h51 h11 (fun z : y = x => rb_ne hxy z.symm) hle (rb_puE rb_s1 ?_)⟩
  refine br_f rb_n2 ⟨rb_i2, nm_e ⟨rb_i2, nm_e ⟨rb_i2, nm_e ⟨rb_i2, nm_e ⟨rb_i2, nm_e ⟨rb_i2, nm_e ⟨rb_i2, nm_e (br_f rb_n1 ⟨rb_i1, br_f hle5 ⟨rb_i1, nm_e ?_⟩⟩)⟩⟩⟩⟩⟩⟩⟩
  refine rb_205b (l := 2) (q := 0) rfl rfl rfl rfl rb_i2 h21 rb_i0 h31 h41 (fun b7 b8 e7 e8 e82 => ?_)
  refine hp _ _ _ _ _ _ _ _ _ ⟨rfl, rfl, h21, rfl, h31, rfl, h40, rfl, rfl, h51, rfl, h60, h61, rfl, e7.trans h70, e8.trans h80, e82.trans ?_⟩
  show a8 0 + a8 0 + v.toInt64 = v.toInt64
  rw [h80]
  grind
theorem rb_putC {post : Int32 → St2 → Prop} {x v y w : Int32} (hA : rb_PA y w a1 a2 a3 a4 a5 a6 a7 a8) (hxy : y < x) (hp : ∀ (g : Int32) (b1 b2 b3 b4 b5 b6 b7 : Nat → Int32) (b8 : Nat → Int64), rb_PC x v y w b1 b2 b3 b4 b5 b6 b7 b8 → post 1 (1, g, c, b1, b2, b3, b4, b5, b6, b7, b8)) : wpX_put post (1, 2, c, a1, a2, a3, a4, a5, a6, a7, a8) x v := by
  obtain ⟨h11, h21, h31, h40, h41, h51, h60, h61, h70, h71, h80⟩ := hA
  have hle : y ≤ x := rb_ltle hxy
  have hle5 : a5 1 ≤ x := by rw [h51]; exact hle
  refine ⟨2, rb_puR rb_s0 rb_p1 rb_i1 h51 h21 (rb_ne hxy) hle (rb_puE rb_s1 ?_)⟩
  refine br_f rb_n2 ⟨rb_i2, nm_e ⟨rb_i2, nm_e ⟨rb_i2, nm_e ⟨rb_i2, nm_e ⟨rb_i2, nm_e ⟨rb_i2, nm_e ⟨rb_i2, nm_e (br_f rb_n1 ⟨rb_i1, br_t hle5 ⟨rb_i1, nm_e ?_⟩⟩)⟩⟩⟩⟩⟩⟩⟩
  refine rb_205b (l := 0) (q := 2) rfl rfl rfl h11 rb_i0 rfl rb_i2 h31 h41 (fun b7 b8 e7 e8 e82 => ?_)
  exact hp _ _ _ _ _ _ _ _ _ ⟨h11, rfl, rfl, rfl, h31, rfl, h40, rfl, rfl, h51, rfl, h60, h61, rfl, e7.trans h70, e8.trans h80⟩
end
/-! put into the empty map -/
theorem rb_put0 {post : Int32 → St2 → Prop} {y w : Int32} {a3 : Nat → Int32} (h3 : a3 1 = 2) (hp : ∀ (b1 b2 b3 b4 b5 b6 b7 : Nat → Int32) (b8 : Nat → Int64), rb_PA y w b1 b2 b3 b4 b5 b6 b7 b8 → post 1 (1, 2, 0, b1, b2, b3, b4, b5, b6, b7, b8)) : wpX_put post (0, 1, 0, (fun _ => 0), (fun _ => 0), a3, (fun _ => 0), (fun _ => 0), (fun _ => 0), (fun _ => 0), (fun _ => 0)) y w := by
  refine ⟨1, rb_puE rb_s0 ?_⟩
  refine br_f rb_n1 ⟨rb_i1, nm_r h3 ⟨rb_i1, nm_e ⟨rb_i1, nm_e ⟨rb_i1, nm_e ⟨rb_i1, nm_e ⟨rb_i1, nm_e ⟨rb_i1, nm_e (br_t rfl ?_)⟩⟩⟩⟩⟩⟩⟩
  refine rb_205a rfl rfl rfl rfl (fun b7 b8 e7 e71 e8 => ?_)
  exact hp _ _ _ _ _ _ _ _ ⟨rfl, rfl, rfl, rfl, rfl, rfl, rfl, rfl, e7, e71.trans (by decide), e8⟩
end
section
section
variable {f c : Int32} {a1 a2 a3 a4 a5 a6 a7 : Nat → Int32} {a8 : Nat → Int64}
theorem rb_q {post : Int64 → Prop} {s t : Int64} (h : s = t) (hp : post t) : post s := by rw [h]; exact hp
/-! shape A: one node -/
theorem rb_Asum {post : Int64 → Prop} {x v : Int32} (hA : rb_PA x v a1 a2 a3 a4 a5 a6 a7 a8) (hp : post v.toInt64) : wpX_sum post (1, f, c, a1, a2, a3, a4, a5, a6, a7, a8) (-2147483648) 2147483647 := by
  obtain ⟨h11, h21, h31, h40, h41, h51, h60, h61, h70, h71, h80⟩ := hA
  refine br_t (rb_min _) ?_
  by_cases e : x = 2147483647
  · have hm : 2147483647 ≤ x := by rw [e]; exact rb_rf _
    refine ⟨1, rb_fdH rb_s0 rb_p1 rb_i1 (h51.trans e) ?_⟩
    refine ⟨2, rb_sbL rb_s0 rb_p1 rb_i1 h51 h11 hm (rb_sb0 rb_s1 ?_)⟩
    refine ⟨rb_i1, ⟨2, rb_sbL rb_s0 rb_p1 rb_i1 h51 h11 (rb_min _) (rb_sb0 rb_s1 ?_)⟩⟩
    refine rb_q (post := post) (t := v.toInt64) ?_ hp
    show 0 + (a6 1).toInt64 - 0 = v.toInt64
    rw [h61]
    grind
  · have hm : ¬ 2147483647 ≤ x := rb_nle (rb_sep (rb_max x) e)
    refine ⟨2, rb_fdR rb_s0 rb_p1 rb_i1 h51 h21 e (rb_max _) (rb_fd0 rb_s1 ?_)⟩
    refine ⟨2, rb_sbR rb_s0 rb_p1 rb_i1 h51 h11 rb_i0 h21 h61 h80 hm (rb_sb0 rb_s1 ?_)⟩
    refine ⟨rb_i0, ⟨2, rb_sbL rb_s0 rb_p1 rb_i1 h51 h11 (rb_min _) (rb_sb0 rb_s1 ?_)⟩⟩
    refine rb_q (post := post) (t := v.toInt64) ?_ hp
    show 0 + (0 + v.toInt64) + (a6 0).toInt64 - 0 = v.toInt64
    rw [h60, rb_t0]
    grind
theorem rb_Aplace {post : Int32 → Prop} {x v : Int32} (hA : rb_PA x v a1 a2 a3 a4 a5 a6 a7 a8) (hp : post 0) : wpX_place post (1, f, c, a1, a2, a3, a4, a5, a6, a7, a8) x := by
  obtain ⟨h11, h21, h31, h40, h41, h51, h60, h61, h70, h71, h80⟩ := hA
  refine ⟨1, rb_fdH rb_s0 rb_p1 rb_i1 h51 (br_f rb_n1 ?_)⟩
  exact ⟨2, rb_beL rb_s0 rb_p1 rb_i1 h51 h11 (rb_rf _) (rb_be0 rb_s1 hp)⟩
theorem rb_Aseek {post : Int32 → St2 → Prop} {x v : Int32} (hA : rb_PA x v a1 a2 a3 a4 a5 a6 a7 a8) (hp : post 0 (1, f, 1, a1, a2, a3, a4, a5, a6, a7, a8)) : wpX_seek post (1, f, c, a1, a2, a3, a4, a5, a6, a7, a8) x := by
  obtain ⟨h11, h21, h31, h40, h41, h51, h60, h61, h70, h71, h80⟩ := hA
  refine ⟨2, rb_ceL rb_s0 rb_p1 rb_i1 h51 h11 (rb_nlt (rb_rf _)) (rb_ce0 rb_s1 ?_)⟩
  exact ⟨2, rb_beL rb_s0 rb_p1 rb_i1 h51 h11 (rb_rf _) (rb_be0 rb_s1 hp)⟩
theorem rb_Aback {post : Int32 → St2 → Prop} {x v : Int32} (hA : rb_PA x v a1 a2 a3 a4 a5 a6 a7 a8) (hp : post 1 (1, f, 1, a1, a2, a3, a4, a5, a6, a7, a8)) : wpX_back post (1, f, 0, a1, a2, a3, a4, a5, a6, a7, a8) := by
  obtain ⟨h11, h21, h31, h40, h41, h51, h60, h61, h70, h71, h80⟩ := hA
  have e1 : a7 (1 : Int32).toNatClampNeg - 1 = 0 := by
    show a7 1 - 1 = 0
    rw [h71]
    decide
  have g1 : vp_in (a1 (1 : Int32).toNatClampNeg) 49 := by
    show vp_in (a1 1) 49
    rw [h11]
    exact rb_i0
  have e2 : a7 (a1 (1 : Int32).toNatClampNeg).toNatClampNeg = 0 := by
    show a7 (a1 1).toNatClampNeg = 0
    rw [h11]
    exact h70
  exact br_t rfl ⟨rb_i1, ⟨1, br_f rb_s0 (br_f rb_p1 ⟨rb_i1, g1, nm_r e2 (br_t e1 (br_f rb_n1 hp))⟩)⟩⟩
/-! shape B: 2 is the left child of 1 -/
theorem rb_Bsum {post : Int64 → Prop} {x v y w : Int32} (hB : rb_PB x v y w a1 a2 a3 a4 a5 a6 a7 a8) (hxy : x < y) (hp : post (v.toInt64 + w.toInt64)) : wpX_sum post (1, f, c, a1, a2, a3, a4, a5, a6, a7, a8) (-2147483648) 2147483647 := by
  obtain ⟨h11, h12, h21, h22, h31, h32, h40, h41, h42, h51, h52, h60, h61, h62, h70, h80, h82⟩ := hB
  have hx : ¬ 2147483647 ≤ x := rb_nle (rb_tr hxy (rb_max y))
  refine br_t (rb_min _) ?_
  by_cases e : y = 2147483647
  · have hm : 2147483647 ≤ y := by rw [e]; exact rb_rf _
    refine ⟨1, rb_fdH rb_s0 rb_p1 rb_i1 (h51.trans e) ?_⟩
    refine ⟨3, rb_sbL rb_s0 rb_p1 rb_i1 h51 h11 hm (rb_sbR rb_s1 rb_p2 rb_i2 h52 h12 rb_i0 h22 h62 h80 hx (rb_sb0 rb_s2 ?_))⟩
    refine ⟨rb_i1, ⟨3, rb_sbL rb_s0 rb_p1 rb_i1 h51 h11 (rb_min _) (rb_sbL rb_s1 rb_p2 rb_i2 h52 h12 (rb_min _) (rb_sb0 rb_s2 ?_))⟩⟩
    refine rb_q (post := post) (t := v.toInt64 + w.toInt64) ?_ hp
    show 0 + (0 + v.toInt64) + (a6 1).toInt64 - 0 = v.toInt64 + w.toInt64
    rw [h61]
    grind
  · have hm : ¬ 2147483647 ≤ y := rb_nle (rb_sep (rb_max y) e)
    refine ⟨2, rb_fdR rb_s0 rb_p1 rb_i1 h51 h21 e (rb_max _) (rb_fd0 rb_s1 ?_)⟩
    refine ⟨2, rb_sbR rb_s0 rb_p1 rb_i1 h51 h11 rb_i2 h21 h61 h82 hm (rb_sb0 rb_s1 ?_)⟩
    refine ⟨rb_i0, ⟨3, rb_sbL rb_s0 rb_p1 rb_i1 h51 h11 (rb_min _) (rb_sbL rb_s1 rb_p2 rb_i2 h52 h12 (rb_min _) (rb_sb0 rb_s2 ?_))⟩⟩
    refine rb_q (post := post) (t := v.toInt64 + w.toInt64) ?_ hp
    show 0 + (v.toInt64 + w.toInt64) + (a6 0).toInt64 - 0 = v.toInt64 + w.toInt64
    rw [h60, rb_t0]
    grind
theorem rb_Bplace {post : Int32 → Prop} {x v y w : Int32} (hB : rb_PB x v y w a1 a2 a3 a4 a5 a6 a7 a8) (hxy : x < y) (hp : post 1) : wpX_place post (1, f, c, a1, a2, a3, a4, a5, a6, a7, a8) y := by
  obtain ⟨h11, h12, h21, h22, h31, h32, h40, h41, h42, h51, h52, h60, h61, h62, h70, h80, h82⟩ := hB
  refine ⟨1, rb_fdH rb_s0 rb_p1 rb_i1 h51 (br_f rb_n1 ?_)⟩
  exact ⟨3, rb_beL rb_s0 rb_p1 rb_i1 h51 h11 (rb_rf _) (rb_beR rb_s1 rb_p2 rb_i2 h52 h12 rb_i0 h22 h70 (rb_nle hxy) (rb_be0 rb_s2 hp))⟩
theorem rb_Bseek {post : Int32 → St2 → Prop} {x v y w : Int32} (hB : rb_PB x v y w a1 a2 a3 a4 a5 a6 a7 a8) (hxy : x < y) (hp : post 0 (1, f, 2, a1, a2, a3, a4, a5, a6, a7, a8)) : wpX_seek post (1, f, c, a1, a2, a3, a4, a5, a6, a7, a8) x := by
  obtain ⟨h11, h12, h21, h22, h31, h32, h40, h41, h42, h51, h52, h60, h61, h62, h70, h80, h82⟩ := hB
  refine ⟨3, rb_ceL rb_s0 rb_p1 rb_i1 h51 h11 (rb_nlt (rb_ltle hxy)) (rb_ceL rb_s1 rb_p2 rb_i2 h52 h12 (rb_nlt (rb_rf _)) (rb_ce0 rb_s2 ?_))⟩
  exact ⟨3, rb_beL rb_s0 rb_p1 rb_i1 h51 h11 (rb_ltle hxy) (rb_beL rb_s1 rb_p2 rb_i2 h52 h12 (rb_rf _) (rb_be0 rb_s2 hp))⟩
theorem rb_Bback {post : Int32 → St2 → Prop} {x v y w : Int32} (hB : rb_PB x v y w a1 a2 a3 a4 a5 a6 a7 a8) (hp : post 1 (1, f, 2, a1, a2, a3, a4, a5, a6, a7, a8)) : wpX_back post (1, f, 1, a1, a2, a3, a4, a5, a6, a7, a8) := by
  obtain ⟨h11, h12, h21, h22, h31, h32, h40, h41, h42, h51, h52, h60, h61, h62, h70, h80, h82⟩ := hB
  exact br_f rb_n1 (rb_nfL rb_i1 h11 rb_p2 rb_i2 h22 (br_f rb_n2 hp))
/-! shape C: 2 is the right child of 1 -/
theorem rb_Csum {post : Int64 → Prop} {x v y w : Int32} (hC : rb_PC x v y w a1 a2 a3 a4 a5 a6 a7 a8) (hxy : y < x) (hp : post (v.toInt64 + w.toInt64)) : wpX_sum post (1, f, c, a1, a2, a3, a4, a5, a6, a7, a8) (-2147483648) 2147483647 := by
  obtain ⟨h11, h12, h21, h22, h31, h32, h40, h41, h42, h51, h52, h60, h61, h62, h70, h80⟩ := hC
  have hy := rb_tr hxy (rb_max x)
  refine br_t (rb_min _) ?_
  by_cases e : x = 2147483647
  · have hm : 2147483647 ≤ x := by rw [e]; exact rb_rf _
    refine ⟨2, rb_fdR rb_s0 rb_p1 rb_i1 h51 h21 (rb_ne hy) (rb_max _) (rb_fdH rb_s1 rb_p2 rb_i2 (h52.trans e) ?_)⟩
    refine ⟨3, rb_sbR rb_s0 rb_p1 rb_i1 h51 h11 rb_i0 h21 h61 h80 (rb_nle hy) (rb_sbL rb_s1 rb_p2 rb_i2 h52 h12 hm (rb_sb0 rb_s2 ?_))⟩
    refine ⟨rb_i2, ⟨2, rb_sbL rb_s0 rb_p1 rb_i1 h51 h11 (rb_min _) (rb_sb0 rb_s1 ?_)⟩⟩
    refine rb_q (post := post) (t := v.toInt64 + w.toInt64) ?_ hp
    show 0 + (0 + w.toInt64) + (a6 2).toInt64 - 0 = v.toInt64 + w.toInt64
    rw [h62]
    grind
  · have hm : ¬ 2147483647 ≤ x := rb_nle (rb_sep (rb_max x) e)
    refine ⟨3, rb_fdR rb_s0 rb_p1 rb_i1 h51 h21 (rb_ne hy) (rb_max _) (rb_fdR rb_s1 rb_p2 rb_i2 h52 h22 e (rb_max _) (rb_fd0 rb_s2 ?_))⟩
    refine ⟨3, rb_sbR rb_s0 rb_p1 rb_i1 h51 h11 rb_i0 h21 h61 h80 (rb_nle hy) (rb_sbR rb_s1 rb_p2 rb_i2 h52 h12 rb_i0 h22 h62 h80 hm (rb_sb0 rb_s2 ?_))⟩
    refine ⟨rb_i0, ⟨2, rb_sbL rb_s0 rb_p1 rb_i1 h51 h11 (rb_min _) (rb_sb0 rb_s1 ?_)⟩⟩
    refine rb_q (post := post) (t := v.toInt64 + w.toInt64) ?_ hp
    show 0 + (0 + w.toInt64) + (0 + v.toInt64) + (a6 0).toInt64 - 0 = v.toInt64 + w.toInt64
    rw [h60, rb_t0]
    grind
theorem rb_Cplace {post : Int32 → Prop} {x v y w : Int32} (hC : rb_PC x v y w a1 a2 a3 a4 a5 a6 a7 a8) (hxy : y < x) (hp : post 1) : wpX_place post (1, f, c, a1, a2, a3, a4, a5, a6, a7, a8) x := by
  obtain ⟨h11, h12, h21, h22, h31, h32, h40, h41, h42, h51, h52, h60, h61, h62, h70, h80⟩ := hC
  refine ⟨2, rb_fdR rb_s0 rb_p1 rb_i1 h51 h21 (rb_ne hxy) (rb_ltle hxy) (rb_fdH rb_s1 rb_p2 rb_i2 h52 (br_f rb_n2 ?_))⟩
  exact ⟨3, rb_beR rb_s0 rb_p1 rb_i1 h51 h11 rb_i0 h21 h70 (rb_nle hxy) (rb_beL rb_s1 rb_p2 rb_i2 h52 h12 (rb_rf _) (rb_be0 rb_s2 hp))⟩
theorem rb_Cseek {post : Int32 → St2 → Prop} {x v y w : Int32} (hC : rb_PC x v y w a1 a2 a3 a4 a5 a6 a7 a8) (hp : post 0 (1, f, 1, a1, a2, a3, a4, a5, a6, a7, a8)) : wpX_seek post (1, f, c, a1, a2, a3, a4, a5, a6, a7, a8) y := by
  obtain ⟨h11, h12, h21, h22, h31, h32, h40, h41, h42, h51, h52, h60, h61, h62, h70, h80⟩ := hC
  refine ⟨2, rb_ceL rb_s0 rb_p1 rb_i1 h51 h11 (rb_nlt (rb_rf _)) (rb_ce0 rb_s1 ?_)⟩
  exact ⟨2, rb_beL rb_s0 rb_p1 rb_i1 h51 h11 (rb_rf _) (rb_be0 rb_s1 hp)⟩
theorem rb_Cback {post : Int32 → St2 → Prop} {x v y w : Int32} (hC : rb_PC x v y w a1 a2 a3 a4 a5 a6 a7 a8) (hp : post 1 (1, f, 1, a1, a2, a3, a4, a5, a6, a7, a8)) : wpX_back post (1, f, 2, a1, a2, a3, a4, a5, a6, a7, a8) := by
  obtain ⟨h11, h12, h21, h22, h31, h32, h40, h41, h42, h51, h52, h60, h61, h62, h70, h80⟩ := hC
  have hq : ¬ a1 1 = 2 := by
    rw [h11]
    decide
  exact br_f rb_n2 (rb_nfP rb_i2 h12 h32 rb_p1 rb_i1 hq (br_f rb_n1 hp))
end
end
section
section
variable {r f c : Int32} {a1 a2 a3 a4 a5 a6 a7 : Nat → Int32} {a8 : Nat → Int64}
theorem rb_rm50 {post : St2 → Prop} {t b z : Int32} (hi : vp_in t 49) (h1 : a1 t.toNatClampNeg = 0) (h2 : a2 t.toNatClampNeg = z) (hw : wX_removeNode_74 post t b z r f c a1 a2 a3 a4 a5 a6 a7 a8) : wX_removeNode_50 post t b r f c a1 a2 a3 a4 a5 a6 a7 a8 := by
  subst h2
  exact ⟨hi, br_t h1 ⟨hi, hw⟩⟩
theorem rb_rm31 {post : St2 → Prop} {t b z : Int32} (hi : vp_in t 49) (h1 : a1 t.toNatClampNeg = 0) (h2 : a2 t.toNatClampNeg = z) (hw : wX_removeNode_74 post t b z r f c a1 a2 a3 a4 a5 a6 a7 a8) : wX_removeNode_31 post t b r f c a1 a2 a3 a4 a5 a6 a7 a8 :=
  ⟨hi, br_t h1 (rb_rm50 hi h1 h2 hw)⟩
/-- the root, black, with no left part: z takes its place -/
theorem rb_rmU {post : St2 → Prop} {z : Int32} (h31 : a3 1 = 0) (zi : vp_in z 49) (hp : ∀ b4 : Nat → Int32, post (z, 1, c, a1, a2, upd (upd (upd a3 z.toNatClampNeg 0) 0 0) (1 : Int32).toNatClampNeg f, b4, a5, a6, a7, a8)) : wX_removeNode_74 post 1 1 z 1 f c a1 a2 a3 a4 a5 a6 a7 a8 := by
  refine ⟨rb_i1, nm_r h31 ⟨rb_i1, nm_r h31 (br_t rfl ⟨zi, nm_e ?_⟩)⟩⟩
  refine ⟨1, br_f rb_s0 (br_t rb_00 (br_f rb_n1 ?_))⟩
  refine ⟨1, br_f rb_s0 (br_t rfl ⟨zi, nm_e ?_⟩)⟩
  exact nm_e (nm_e ⟨rb_i1, nm_e (hp _)⟩)
/-- node 2, red, the left child of 1, without parts -/
theorem rb_rmL {post : St2 → Prop} (h11 : a1 1 = 2) (h21 : a2 1 = 0) (h31 : a3 1 = 0) (h32 : a3 2 = 1) (hp : ∀ (b1 b3 b4 b7 : Nat → Int32) (b8 : Nat → Int64), b3 1 = 0 → post (1, 2, c, b1, a2, b3, b4, a5, a6, b7, b8)) : wX_removeNode_74 post 2 0 0 1 f c a1 a2 a3 a4 a5 a6 a7 a8 := by
  refine ⟨rb_i2, nm_r h32 ⟨rb_i2, nm_r h32 (br_f rb_n1 ⟨rb_i1, br_t h11 ⟨rb_i1, nm_e ⟨rb_i0, nm_e ?_⟩⟩⟩)⟩⟩
  refine ⟨2, rb_ruS (l := 0) (q := 0) (p := 0) rb_s0 rb_p1 rb_i1 rfl rb_i0 h21 rb_i0 rfl rfl rfl rfl rfl h31 (br_f rb_s1 (br_t rb_00 (br_t rfl ?_)))⟩
  exact nm_e (nm_e ⟨rb_i2, nm_e (hp _ _ _ _ _ h31)⟩)
/-! remove in each shape -/
theorem rb_Arem {post : Int32 → St2 → Prop} {x v : Int32} (hA : rb_PA x v a1 a2 a3 a4 a5 a6 a7 a8) (hp : ∀ (b1 b2 b3 b4 b5 b6 b7 : Nat → Int32) (b8 : Nat → Int64), post 1 (0, 1, 0, b1, b2, b3, b4, b5, b6, b7, b8)) : wpX_remove post (1, f, 1, a1, a2, a3, a4, a5, a6, a7, a8) x := by
  obtain ⟨h11, h21, h31, h40, h41, h51, h60, h61, h70, h71, h80⟩ := hA
  refine ⟨1, rb_fdH rb_s0 rb_p1 rb_i1 h51 (br_f rb_n1 (br_t rfl (rb_nbU rb_i1 h21 h31 ⟨rb_i1, br_t h41 ?_⟩)))⟩
  exact rb_rm31 rb_i1 h11 h21 (rb_rmU h31 rb_i0 (fun b4 => hp _ _ _ _ _ _ _ _))
theorem rb_Brem {post : Int32 → St2 → Prop} {x v y w : Int32} (hB : rb_PB x v y w a1 a2 a3 a4 a5 a6 a7 a8) (hxy : x < y) (hp : ∀ (b1 b2 b3 b4 b5 b6 b7 : Nat → Int32) (b8 : Nat → Int64), b2 1 = 0 → b3 1 = 0 → b5 1 = y → post 1 (1, 2, 1, b1, b2, b3, b4, b5, b6, b7, b8)) : wpX_remove post (1, f, 2, a1, a2, a3, a4, a5, a6, a7, a8) x := by
  obtain ⟨h11, h12, h21, h22, h31, h32, h40, h41, h42, h51, h52, h60, h61, h62, h70, h80, h82⟩ := hB
  have hr : ¬ a2 1 = 2 := by
    rw [h21]
    decide
  have hb : ¬ a4 2 = 0 := by
    rw [h42]
    decide
  refine ⟨2, rb_fdL rb_s0 rb_p1 rb_i1 h51 h11 (fun z : y = x => rb_ne hxy z.symm) (rb_nle hxy) (rb_fdH rb_s1 rb_p2 rb_i2 h52 (br_f rb_n2 (br_t rfl (rb_nbP rb_i2 h22 h32 rb_p1 rb_i1 hr ⟨rb_i2, br_f hb ?_⟩))))⟩
  exact rb_rm31 rb_i2 h12 h22 (rb_rmL h11 h21 h31 h32 (fun b1 b3 b4 b7 b8 e3 => hp _ _ _ _ _ _ _ _ h21 e3 h51))
theorem rb_Crem {post : Int32 → St2 → Prop} {x v y w : Int32} (hC : rb_PC x v y w a1 a2 a3 a4 a5 a6 a7 a8) (hp : ∀ (b1 b2 b3 b4 b5 b6 b7 : Nat → Int32) (b8 : Nat → Int64), b2 2 = 0 → b3 2 = 0 → b5 2 = x → post 1 (2, 1, 2, b1, b2, b3, b4, b5, b6, b7, b8)) : wpX_remove post (1, f, 1, a1, a2, a3, a4, a5, a6, a7, a8) y := by
  obtain ⟨h11, h12, h21, h22, h31, h32, h40, h41, h42, h51, h52, h60, h61, h62, h70, h80⟩ := hC
  refine ⟨1, rb_fdH rb_s0 rb_p1 rb_i1 h51 (br_f rb_n1 (br_t rfl (rb_nbR rb_i1 h21 rb_p2 rb_i2 h12 ⟨rb_i1, br_t h41 ?_⟩)))⟩
  exact rb_rm31 rb_i1 h11 h21 (rb_rmU h31 rb_i2 (fun b4 => hp _ _ _ _ _ _ _ _ h22 rfl h52))
end
end
section
section
variable {f : Int32} {a1 a2 a3 a4 a5 a6 a7 : Nat → Int32} {a8 : Nat → Int64}
theorem rb_lawA {post : Int32 → St0 → Prop} {mc ms kc ks : Nat} {x v w : Int32} (hA : rb_PA x v a1 a2 a3 a4 a5 a6 a7 a8) (hp : post 1 ()) : wL_lawOf_34 post mc ms x x v w 0 0 kc ks 1 f 0 a1 a2 a3 a4 a5 a6 a7 a8 := by
  have hA' := hA
  obtain ⟨h11, h21, h31, h40, h41, h51, h60, h61, h70, h71, h80⟩ := hA'
  refine br_t rfl (br_t (rb_rf x) (br_t (rb_rf x) (br_t rfl ?_)))
  refine rb_Asum hA (br_t rfl ?_)
  refine rb_Aplace hA (br_t rfl (br_t rfl ?_))
  refine rb_Aseek hA (br_t rfl ?_)
  refine rb_key rb_n1 rb_i1 h51 (br_t rfl ?_)
  refine rb_next rb_n1 (rb_nbU rb_i1 h21 h31 (br_t rb_00 (br_t rfl (br_t rfl ?_))))
  refine rb_Aback hA (br_t rfl ?_)
  refine rb_Arem hA (fun b1 b2 b3 b4 b5 b6 b7 b8 => br_t rfl ?_)
  refine br_t rfl (br_t rfl (br_t rfl ?_))
  exact br_t rfl (br_t rfl (br_t rfl hp))
theorem rb_lawB {post : Int32 → St0 → Prop} {mc ms kc ks : Nat} {x v y w : Int32} (hB : rb_PB x v y w a1 a2 a3 a4 a5 a6 a7 a8) (hxy : x < y) (hp : post 1 ()) : wL_lawOf_34 post mc ms x y v w 1 1 kc ks 1 f 0 a1 a2 a3 a4 a5 a6 a7 a8 := by
  have hB' := hB
  obtain ⟨h11, h12, h21, h22, h31, h32, h40, h41, h42, h51, h52, h60, h61, h62, h70, h80, h82⟩ := hB'
  have hne := rb_ne hxy
  have hr : ¬ a2 1 = 2 := by
    rw [h21]
    decide
  refine br_t rfl (br_f (rb_nle hxy) (br_f (rb_nle hxy) (br_f hne ?_)))
  refine rb_Bsum hB hxy (br_t rfl ?_)
  refine rb_Bplace hB hxy (br_f hne (br_t rfl ?_))
  refine rb_Bseek hB hxy (br_t rfl ?_)
  refine rb_key rb_n2 rb_i2 h52 (br_t rfl ?_)
  refine rb_next rb_n2 (rb_nbP rb_i2 h22 h32 rb_p1 rb_i1 hr (br_f rb_p1 (br_f hne (br_t rfl ?_))))
  refine rb_Bback hB (br_t rfl ?_)
  refine rb_Brem hB hxy (fun b1 b2 b3 b4 b5 b6 b7 b8 g2 g3 g5 => br_t rfl ?_)
  refine rb_key rb_n1 rb_i1 g5 (br_f hne (br_t rfl ?_))
  exact rb_next rb_n1 (rb_nbU rb_i1 g2 g3 (br_t rb_00 (br_f hne (br_t rfl hp))))
theorem rb_lawC {post : Int32 → St0 → Prop} {mc ms kc ks : Nat} {x v y w : Int32} (hC : rb_PC x v y w a1 a2 a3 a4 a5 a6 a7 a8) (hxy : y < x) (hp : post 1 ()) : wL_lawOf_34 post mc ms x y v w 1 1 kc ks 1 f 0 a1 a2 a3 a4 a5 a6 a7 a8 := by
  have hC' := hC
  obtain ⟨h11, h12, h21, h22, h31, h32, h40, h41, h42, h51, h52, h60, h61, h62, h70, h80⟩ := hC'
  have hne : ¬ x = y := fun z => rb_ne hxy z.symm
  refine br_t rfl (br_t (rb_ltle hxy) (br_t (rb_ltle hxy) (br_f hne ?_)))
  refine rb_Csum hC hxy (br_t rfl ?_)
  refine rb_Cplace hC hxy (br_f hne (br_t rfl ?_))
  refine rb_Cseek hC (br_t rfl ?_)
  refine rb_key rb_n1 rb_i1 h51 (br_t rfl ?_)
  refine rb_next rb_n1 (rb_nbR rb_i1 h21 rb_p2 rb_i2 h12 (br_f rb_p2 (br_f hne (br_t rfl ?_))))
  refine rb_Cback hC (br_t rfl ?_)
  refine rb_Crem hC (fun b1 b2 b3 b4 b5 b6 b7 b8 g2 g3 g5 => br_t rfl ?_)
  refine rb_key rb_n2 rb_i2 g5 (br_f hne (br_t rfl ?_))
  exact rb_next rb_n2 (rb_nbU rb_i2 g2 g3 (br_t rb_00 (br_f hne (br_t rfl hp))))
end
theorem rb_law (x y v w : Int32) : wpL_lawOf (fun r _ => r = 1) 9 403 () x y v w := by
  refine ⟨by decide, by decide, 8, 392, by decide, by decide, rb_init (fun a3 h3 => rb_put0 h3 (fun b1 b2 b3 b4 b5 b6 b7 b8 hA => ?_))⟩
  by_cases e : x = y
  · subst e
    exact rb_putA hA (fun a1 a2 a3 a4 a5 a6 a7 a8 hP => br_t rfl (rb_lawA hP rfl))
  · by_cases l : y ≤ x
    · have g : y < x := rb_sep l (fun z => e z.symm)
      exact rb_putC hA g (fun g0 a1 a2 a3 a4 a5 a6 a7 a8 hP => br_f e (rb_lawC hP g rfl))
    · have g : x < y := rb_lt l
      exact rb_putB hA g (fun g0 a1 a2 a3 a4 a5 a6 a7 a8 hP => br_f e (rb_lawB hP g rfl))
theorem rb_cell {post : Int32 → Prop} {L : Nat} {xs : Nat → Int32} (hL : L ≤ 4) (j : Nat) (hj : j < 4) (hp : ∀ v, post v) : wpL_cellAt post L xs () (nI j) :=
  pk_le L j (fun _ => hp 0) (fun z => ⟨pk_in j L z, hp _⟩)
theorem i_vc (xs : Nat → Int32) (L : Nat) (hL : L ≤ 4) : wpL_law (fun r => r = 1) L xs :=
  rb_cell hL 0 (by omega) (fun x => rb_cell hL 1 (by omega) (fun y => rb_cell hL 2 (by omega) (fun v => rb_cell hL 3 (by omega) (fun w => ⟨9, 403, by decide, by decide, rb_law x y v w⟩))))
end
