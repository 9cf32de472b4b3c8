section
/-! ===== PatchGraphs: the small methods ===== -/
/-- the bit that hasBit looks at -/
def pg_b (w : Int64) (b : Int32) : Int64 := ((w.toUInt64 >>> (b.toInt64.toUInt64 &&& Int64.toUInt64 63)).toInt64) &&& 1
/-- a store: in range, its first two places too -/
def pg_S (p : Int32) : Prop := ¬ p < 0 ∧ p < 3 ∧ vp_in p 3 ∧ vp_in ((60 * p) + 0) 180 ∧ vp_in ((60 * p) + 1) 180
theorem pg_S0 : pg_S 0 := ⟨by decide, by decide, vp_in_iff.mpr (by decide), vp_in_iff.mpr (by decide), vp_in_iff.mpr (by decide)⟩
theorem pg_S1 : pg_S 1 := ⟨by decide, by decide, vp_in_iff.mpr (by decide), vp_in_iff.mpr (by decide), vp_in_iff.mpr (by decide)⟩
theorem pg_S2 : pg_S 2 := ⟨by decide, by decide, vp_in_iff.mpr (by decide), vp_in_iff.mpr (by decide), vp_in_iff.mpr (by decide)⟩
theorem pg_i0 : vp_in (0 : Int32) 60 := vp_in_iff.mpr (by decide)
theorem pg_i1 : vp_in (1 : Int32) 60 := vp_in_iff.mpr (by decide)
theorem pg_bad {post : Int32 → Prop} {u : St2} {p : Int32} (hp : pg_S p) (H : post 0) : wpX_badStore post u p := by
  obtain ⟨c, a1, a2, a3, a4, a5, a6, a7, a8, a9, a10, a11, a12⟩ := u
  exact br_f hp.1 (br_t hp.2.1 H)
theorem pg_hb1 {post : Int32 → Prop} {u : St2} {w : Int64} {b : Int32} (w' : Int64) (hw : w = w') (h : pg_b w' b = 1) (H : post 1) : wpX_hasBit post u w b := by
  obtain ⟨c, a1, a2, a3, a4, a5, a6, a7, a8, a9, a10, a11, a12⟩ := u
  subst hw
  exact br_t h H
theorem pg_hb0 {post : Int32 → Prop} {u : St2} {w : Int64} {b : Int32} (w' : Int64) (hw : w = w') (h : ¬ pg_b w' b = 1) (H : post 0) : wpX_hasBit post u w b := by
  obtain ⟨c, a1, a2, a3, a4, a5, a6, a7, a8, a9, a10, a11, a12⟩ := u
  subst hw
  exact br_f h H
theorem pg_bit {post : Int64 → Prop} {u : St2} {b : Int32} (m : Int64) (hm : (1 : Int64) <<< (b.toInt64 &&& 63) = m) (H : post m) : wpX_bit post u b := by
  obtain ⟨c, a1, a2, a3, a4, a5, a6, a7, a8, a9, a10, a11, a12⟩ := u
  subst hm
  exact H
section
variable {c : Int32} {a1 a2 a3 a4 : Nat → Int32} {a5 a6 a7 a8 a9 : Nat → Int64} {a10 a11 a12 : Nat → Int32}
/-! linesOf: nothing made; one patch that isn't this store's; two patches, both lines of this store -/
theorem pg_lo0 {post : Int64 → Prop} {p : Int32} (hc : c = 0) (H : post 0) : wpX_linesOf post (c, a1, a2, a3, a4, a5, a6, a7, a8, a9, a10, a11, a12) p := by
  subst hc
  exact ⟨1, br_t (by decide) H⟩
theorem pg_lo1 {post : Int64 → Prop} {p : Int32} (hc : c = 1) (hp : pg_S p) (h6 : a6 p.toNatClampNeg = 0) (H : post 0) : wpX_linesOf post (c, a1, a2, a3, a4, a5, a6, a7, a8, a9, a10, a11, a12) p := by
  subst hc
  refine ⟨2, br_f (by decide) ?_⟩
  refine br_f (by decide) ⟨hp.2.2.1, pg_hb0 0 h6 (by decide +kernel) (br_t rfl (br_t rfl ?_))⟩
  refine nm_r (show (0 : Int32) + 1 = 1 by decide) ?_
  exact br_t (by decide) H
theorem pg_lo2 {post : Int64 → Prop} {p : Int32} (hc : c = 2) (hp : pg_S p) (h6 : a6 p.toNatClampNeg = 3) (h7 : a7 p.toNatClampNeg = 0) (h10 : ¬ a1 (0 : Int32).toNatClampNeg = 0) (h11 : ¬ a1 (1 : Int32).toNatClampNeg = 0) (H : post 3) : wpX_linesOf post (c, a1, a2, a3, a4, a5, a6, a7, a8, a9, a10, a11, a12) p := by
  subst hc
  refine ⟨3, br_f (by decide) ?_⟩
  refine br_f (by decide) ⟨hp.2.2.1, pg_hb1 3 h6 (by decide +kernel) (br_f (by decide) ⟨pg_i0, br_f h10 (br_f (by decide) ?_)⟩)⟩
  refine ⟨hp.2.2.1, pg_hb0 0 h7 (by decide +kernel) (br_t rfl (pg_bit 1 (by decide +kernel) ?_))⟩
  refine nm_r (show (0 : Int64) ||| 1 = 1 by decide +kernel) (nm_r (show (0 : Int32) + 1 = 1 by decide) ?_)
  refine br_f (by decide) ?_
  refine br_f (by decide) ⟨hp.2.2.1, pg_hb1 3 h6 (by decide +kernel) (br_f (by decide) ⟨pg_i1, br_f h11 (br_f (by decide) ?_)⟩)⟩
  refine ⟨hp.2.2.1, pg_hb0 0 h7 (by decide +kernel) (br_t rfl (pg_bit 2 (by decide +kernel) ?_))⟩
  refine nm_r (show (1 : Int64) ||| 2 = 3 by decide +kernel) (nm_r (show (1 : Int32) + 1 = 2 by decide) ?_)
  exact br_t (by decide) H
theorem pg_ahead {post : Int64 → Prop} {p x : Int32} (hv : vp_in ((60 * p) + x) 180) (h9 : a9 ((60 * p) + x).toNatClampNeg = 0) (H : post 0) : wpX_aheadOf post (c, a1, a2, a3, a4, a5, a6, a7, a8, a9, a10, a11, a12) p x := by
  have e : (a9 ((60 * p) + x).toNatClampNeg) &&& ((a8 ((60 * p) + x).toNatClampNeg) ^^^ (-1)) = 0 := by rw [h9, Int64.zero_and]
  have h : post ((a9 ((60 * p) + x).toNatClampNeg) &&& ((a8 ((60 * p) + x).toNatClampNeg) ^^^ (-1))) := by rw [e]; exact H
  exact ⟨hv, hv, h⟩
theorem pg_bits {post : Int32 → Prop} {u : St2} {w : Int64} (w' : Int64) (hw : w = w') (h0 : ¬ w' = 0) (h1 : w' &&& (w' - 1) = 0) (H : post 1) : wpX_bitsOf post u w := by
  obtain ⟨c, a1, a2, a3, a4, a5, a6, a7, a8, a9, a10, a11, a12⟩ := u
  subst hw
  refine ⟨2, br_f (by decide) (br_f h0 ?_)⟩
  refine nm_r h1 (nm_r (show (0 : Int32) + 1 = 1 by decide) (nm_r (show (0 : Int32) + 1 = 1 by decide) ?_))
  exact br_f (by decide) (br_t rfl H)
end
end
section
/-! ===== PatchGraphs: write ===== -/
section
variable {c : Int32} {a1 a2 a3 a4 : Nat → Int32} {a5 a6 a7 a8 a9 : Nat → Int64} {a10 a11 a12 : Nat → Int32}
variable {post : St2 → Prop} {J : Int64 → Int32 → Int32 → (Nat → Int32) → (Nat → Int32) → (Nat → Int32) → (Nat → Int32) → (Nat → Int64) → (Nat → Int64) → (Nat → Int64) → (Nat → Int64) → (Nat → Int64) → (Nat → Int32) → (Nat → Int32) → (Nat → Int32) → Prop} {p x4 x5 x6 : Int32} {x2 : Int64} {n : Nat}
/-- one look at a line of the rest that nothing is ahead of -/
theorem pg_w46s (x7 x7' : Int32) (m : Int64) (hx : ¬ x7 < 0) (hb : pg_b x2 x7 = 1) (hv : vp_in ((60 * p) + x7) 180) (h9 : a9 ((60 * p) + x7).toNatClampNeg = 0) (hm : (1 : Int64) <<< (x7.toInt64 &&& 63) = m) (he : ((0 &&& x2) &&& (m ^^^ (-1))) = 0) (hx' : x7 + (-1) = x7')
    (H : wX_write_46 post J p x2 x4 x5 c a1 a2 a3 a4 a5 a6 a7 a8 a9 a10 a11 a12 n x7 x7') : wX_write_46 post J p x2 x4 x5 c a1 a2 a3 a4 a5 a6 a7 a8 a9 a10 a11 a12 (n + 1) x6 x7 := by
  refine br_f hx (pg_hb1 x2 rfl hb (br_f (by decide) ?_))
  refine pg_ahead hv h9 (pg_bit m hm (br_t he ?_))
  refine br_f (by decide) (nm_r hx' H)
/-- one look at a line that isn't in the rest -/
theorem pg_w46n (x7 x7' : Int32) (hx : ¬ x7 < 0) (hb : ¬ pg_b x2 x7 = 1) (hx' : x7 + (-1) = x7')
    (H : wX_write_46 post J p x2 x4 x5 c a1 a2 a3 a4 a5 a6 a7 a8 a9 a10 a11 a12 n x6 x7') : wX_write_46 post J p x2 x4 x5 c a1 a2 a3 a4 a5 a6 a7 a8 a9 a10 a11 a12 (n + 1) x6 x7 := by
  refine br_f hx (pg_hb0 x2 rfl hb (br_t rfl ?_))
  refine br_t rfl (nm_r hx' H)
/-- the looks' end -/
theorem pg_w46e (x7 x4' x5' : Int32) (m x2' : Int64) (hx : x7 < 0) (hv : vp_in ((60 * p) + x4) 180) (hm : (1 : Int64) <<< (x6.toInt64 &&& 63) = m) (h2 : x2 &&& (m ^^^ (-1)) = x2') (h4 : x4 + 1 = x4') (h5 : x5 + 1 = x5')
    (H : J x2' x4' x5' a1 a2 a3 a4 a5 a6 a7 a8 a9 a10 a11 (upd a12 ((60 * p) + x4).toNatClampNeg x6)) : wX_write_46 post J p x2 x4 x5 c a1 a2 a3 a4 a5 a6 a7 a8 a9 a10 a11 a12 (n + 1) x6 x7 := by
  refine br_t hx ⟨hv, nm_e (nm_r h4 (pg_bit m hm (nm_r h2 (nm_r h5 H))))⟩
theorem pg_w149 (hp : pg_S p) (H : post (c, a1, a2, a3, a4, a5, a6, a7, a8, a9, upd a10 p.toNatClampNeg 1, upd a11 p.toNatClampNeg x4, a12)) : wX_write_149 post p x4 c a1 a2 a3 a4 a5 a6 a7 a8 a9 a10 a11 a12 :=
  ⟨hp.2.2.1, nm_e ⟨hp.2.2.1, nm_e H⟩⟩
/-- two lines, neither ahead of the other: the lesser number first -/
theorem pg_w22 (hc : c = 2) (hp : pg_S p) (h90 : a9 ((60 * p) + 0).toNatClampNeg = 0) (h91 : a9 ((60 * p) + 1).toNatClampNeg = 0)
    (H : post (c, a1, a2, a3, a4, a5, a6, a7, a8, a9, upd a10 p.toNatClampNeg 1, upd a11 p.toNatClampNeg 2, upd (upd a12 ((60 * p) + 0).toNatClampNeg 0) ((60 * p) + 1).toNatClampNeg 1)) : ∃ fu, wX_write_22 post p c fu 3 0 0 a1 a2 a3 a4 a5 a6 a7 a8 a9 a10 a11 a12 := by
  subst hc
  refine ⟨2 + 1, br_f (by decide) (br_f (by decide +kernel) (nm_r (show (2 : Int32) - 1 = 1 by decide) ⟨2 + 1, ?_⟩))⟩
  refine pg_w46s 1 0 2 (by decide) (by decide +kernel) hp.2.2.2.2 h91 (by decide +kernel) (by decide +kernel) (by decide) ?_
  refine pg_w46s 0 (-1) 1 (by decide) (by decide +kernel) hp.2.2.2.1 h90 (by decide +kernel) (by decide +kernel) (by decide) ?_
  refine pg_w46e (-1) 1 1 1 2 (by decide) hp.2.2.2.1 (by decide +kernel) (by decide +kernel) (by decide) (by decide) ?_
  refine br_f (by decide) (br_f (by decide +kernel) (nm_r (show (2 : Int32) - 1 = 1 by decide) ⟨2 + 1, ?_⟩))
  refine pg_w46s 1 0 2 (by decide) (by decide +kernel) hp.2.2.2.2 h91 (by decide +kernel) (by decide +kernel) (by decide) ?_
  refine pg_w46n 0 (-1) (by decide) (by decide +kernel) (by decide) ?_
  refine pg_w46e (-1) 2 2 2 0 (by decide) hp.2.2.2.2 (by decide +kernel) (by decide +kernel) (by decide) (by decide) ?_
  refine br_f (by decide) (br_t rfl ?_)
  exact pg_w149 hp H
theorem pg_write2 (hc : c = 2) (hp : pg_S p) (h10 : a10 p.toNatClampNeg = 0) (h6 : a6 p.toNatClampNeg = 3) (h7 : a7 p.toNatClampNeg = 0) (hi0 : ¬ a1 (0 : Int32).toNatClampNeg = 0) (hi1 : ¬ a1 (1 : Int32).toNatClampNeg = 0) (h90 : a9 ((60 * p) + 0).toNatClampNeg = 0) (h91 : a9 ((60 * p) + 1).toNatClampNeg = 0)
    (H : post (c, a1, a2, a3, a4, a5, a6, a7, a8, a9, upd a10 p.toNatClampNeg 1, upd a11 p.toNatClampNeg 2, upd (upd a12 ((60 * p) + 0).toNatClampNeg 0) ((60 * p) + 1).toNatClampNeg 1)) : wpX_write post (c, a1, a2, a3, a4, a5, a6, a7, a8, a9, a10, a11, a12) p :=
  ⟨hp.2.2.1, br_t h10 (pg_lo2 hc hp h6 h7 hi0 hi1 (pg_w22 hc hp h90 h91 H))⟩
/-- a store without lines -/
theorem pg_writeE (hp : pg_S p) (h10 : a10 p.toNatClampNeg = 0) (HL : ∀ Q : Int64 → Prop, Q 0 → wpX_linesOf Q (c, a1, a2, a3, a4, a5, a6, a7, a8, a9, a10, a11, a12) p)
    (H : post (c, a1, a2, a3, a4, a5, a6, a7, a8, a9, upd a10 p.toNatClampNeg 1, upd a11 p.toNatClampNeg 0, a12)) : wpX_write post (c, a1, a2, a3, a4, a5, a6, a7, a8, a9, a10, a11, a12) p :=
  ⟨hp.2.2.1, br_t h10 (HL _ ⟨1, br_f (by decide) (br_t rfl (pg_w149 hp H))⟩)⟩
/-- a text that is up to date -/
theorem pg_writeW (hp : pg_S p) (h10 : ¬ a10 p.toNatClampNeg = 0) (H : post (c, a1, a2, a3, a4, a5, a6, a7, a8, a9, a10, a11, a12)) : wpX_write post (c, a1, a2, a3, a4, a5, a6, a7, a8, a9, a10, a11, a12) p :=
  ⟨hp.2.2.1, br_f h10 H⟩
end
end
section
/-! ===== PatchGraphs: add, make, put, pull, and the questions ===== -/
section
variable {c : Int32} {a1 a2 a3 a4 : Nat → Int32} {a5 a6 a7 a8 a9 : Nat → Int64} {a10 a11 a12 : Nat → Int32} {p q x : Int32}
/-- a patch that puts a line in, with no line above or below it -/
theorem pg_add {post : St2 → Prop} (m : Int64) (hm : (1 : Int64) <<< (q.toInt64 &&& 63) = m) (hp : pg_S p) (hq : vp_in q 60) (hpq : vp_in ((60 * p) + q) 180) (h1 : ¬ a1 q.toNatClampNeg = 0) (h2 : a2 q.toNatClampNeg = -1) (h3 : a3 q.toNatClampNeg = -1)
    (H : post (c, a1, a2, a3, a4, a5, vp_updL a6 p.toNatClampNeg ((a6 p.toNatClampNeg) ||| m), a7, vp_updL a8 ((60 * p) + q).toNatClampNeg 0, vp_updL a9 ((60 * p) + q).toNatClampNeg 0, upd a10 p.toNatClampNeg 0, a11, a12)) : wpX_add post (c, a1, a2, a3, a4, a5, a6, a7, a8, a9, a10, a11, a12) p q := by
  refine ⟨hp.2.2.1, pg_bit m hm ⟨hp.2.2.1, nm_e ⟨hp.2.2.1, nm_e ⟨hq, br_f h1 ?_⟩⟩⟩⟩
  refine ⟨hpq, nm_e ⟨hpq, nm_e ⟨hq, br_t h2 ?_⟩⟩⟩
  exact ⟨hq, br_t h3 H⟩
theorem pg_make {post : Int32 → St2 → Prop} (m : Int64) (hm : (1 : Int64) <<< (c.toInt64 &&& 63) = m) (c' : Int32) (hc' : c + 1 = c') (hp : pg_S p) (hc : vp_in c 60) (hpc : vp_in ((60 * p) + c) 180)
    (H : post c (c', upd a1 c.toNatClampNeg (vp_nar .boolean 1), upd a2 c.toNatClampNeg (-1), upd a3 c.toNatClampNeg (-1), upd a4 c.toNatClampNeg x, vp_updL a5 c.toNatClampNeg (0 ||| 0), vp_updL a6 p.toNatClampNeg ((a6 p.toNatClampNeg) ||| m), a7, vp_updL a8 ((60 * p) + c).toNatClampNeg 0, vp_updL a9 ((60 * p) + c).toNatClampNeg 0, upd a10 p.toNatClampNeg 0, a11, a12)) :
    wpX_make post (c, a1, a2, a3, a4, a5, a6, a7, a8, a9, a10, a11, a12) p 1 (-1) (-1) x := by
  refine ⟨hc, nm_e ⟨hc, nm_e ⟨hc, nm_e ⟨hc, nm_e (br_t rfl (br_t rfl ⟨hc, nm_e (nm_r hc' ?_)⟩))⟩⟩⟩⟩
  exact pg_add m hm hp hc hpc (by rw [pk_us]; decide) (by rw [pk_us]) (by rw [pk_us]) H
/-- put at the head of a store without lines -/
theorem pg_put {post : Int32 → St2 → Prop} (m : Int64) (hm : (1 : Int64) <<< (c.toInt64 &&& 63) = m) (c' : Int32) (hc' : c + 1 = c') (hp : pg_S p) (hc : vp_in c 60) (hc60 : ¬ c = 60) (hpc : vp_in ((60 * p) + c) 180) (h10 : a10 p.toNatClampNeg = 0) (HL : ∀ Q : Int64 → Prop, Q 0 → wpX_linesOf Q (c, a1, a2, a3, a4, a5, a6, a7, a8, a9, a10, a11, a12) p)
    (H : post c (c', upd a1 c.toNatClampNeg (vp_nar .boolean 1), upd a2 c.toNatClampNeg (-1), upd a3 c.toNatClampNeg (-1), upd a4 c.toNatClampNeg x, vp_updL a5 c.toNatClampNeg (0 ||| 0), vp_updL a6 p.toNatClampNeg ((a6 p.toNatClampNeg) ||| m), a7, vp_updL a8 ((60 * p) + c).toNatClampNeg 0, vp_updL a9 ((60 * p) + c).toNatClampNeg 0, upd (upd a10 p.toNatClampNeg 1) p.toNatClampNeg 0, upd a11 p.toNatClampNeg 0, a12)) :
    wpX_put post (c, a1, a2, a3, a4, a5, a6, a7, a8, a9, a10, a11, a12) p 0 x := by
  unfold wpX_put
  refine pg_bad hp (br_t rfl (pg_writeE hp h10 HL ?_))
  refine br_f (by decide) ⟨hp.2.2.1, br_t (by rw [pk_us]; decide) (br_f hc60 ?_)⟩
  refine br_t (by decide) ?_
  refine br_f (by decide) ⟨hp.2.2.1, br_f (by rw [pk_us]; decide) ?_⟩
  exact pg_make m hm c' hc' hp hc hpc H
/-- pull: patch 0 is the other store's, patch 1 this store's -/
theorem pg_pull {post : Int32 → St2 → Prop} (hc : c = 2) (hp : pg_S p) (hq : pg_S q) (hpq : ¬ p = q) (h6p : a6 p.toNatClampNeg = 1) (h6q : a6 q.toNatClampNeg = 2) (h1 : ¬ a1 (0 : Int32).toNatClampNeg = 0) (h2 : a2 (0 : Int32).toNatClampNeg = -1) (h3 : a3 (0 : Int32).toNatClampNeg = -1)
    (H : post 1 (c, a1, a2, a3, a4, a5, vp_updL a6 q.toNatClampNeg ((a6 q.toNatClampNeg) ||| 1), a7, vp_updL a8 ((60 * q) + 0).toNatClampNeg 0, vp_updL a9 ((60 * q) + 0).toNatClampNeg 0, upd a10 q.toNatClampNeg 0, a11, a12)) :
    wpX_pull post (c, a1, a2, a3, a4, a5, a6, a7, a8, a9, a10, a11, a12) p q := by
  subst hc
  unfold wpX_pull
  refine pg_bad hp (br_t rfl (pg_bad hq (br_t rfl (br_f hpq ⟨hp.2.2.1, 3, ?_⟩))))
  refine br_f (by decide) (pg_hb1 1 h6p (by decide +kernel) (br_f (by decide) ⟨hq.2.2.1, pg_hb0 2 h6q (by decide +kernel) (br_t rfl ?_)⟩))
  refine pg_add 1 (by decide +kernel) hq pg_i0 hq.2.2.2.1 h1 h2 h3 ?_
  refine nm_r (show (0 : Int32) + 1 = 1 by decide) (nm_r (show (0 : Int32) + 1 = 1 by decide) ?_)
  refine br_f (by decide) (pg_hb0 1 h6p (by decide +kernel) (br_t rfl ?_))
  refine nm_r (show (1 : Int32) + 1 = 2 by decide) ?_
  exact br_t (by decide) H
theorem pg_length {post : Int32 → St2 → Prop} (hc : c = 2) (hp : pg_S p) (h10 : a10 p.toNatClampNeg = 0) (h6 : a6 p.toNatClampNeg = 3) (h7 : a7 p.toNatClampNeg = 0) (hi0 : ¬ a1 (0 : Int32).toNatClampNeg = 0) (hi1 : ¬ a1 (1 : Int32).toNatClampNeg = 0) (h90 : a9 ((60 * p) + 0).toNatClampNeg = 0) (h91 : a9 ((60 * p) + 1).toNatClampNeg = 0)
    (H : post 2 (c, a1, a2, a3, a4, a5, a6, a7, a8, a9, upd a10 p.toNatClampNeg 1, upd a11 p.toNatClampNeg 2, upd (upd a12 ((60 * p) + 0).toNatClampNeg 0) ((60 * p) + 1).toNatClampNeg 1)) : wpX_length post (c, a1, a2, a3, a4, a5, a6, a7, a8, a9, a10, a11, a12) p := by
  unfold wpX_length
  refine pg_bad hp (br_t rfl (pg_write2 hc hp h10 h6 h7 hi0 hi1 h90 h91 ⟨hp.2.2.1, ?_⟩))
  rw [pk_us]
  exact H
theorem pg_content {post : Int32 → St2 → Prop} (k l r : Int32) (hp : pg_S p) (h10 : ¬ a10 p.toNatClampNeg = 0) (hk : ¬ k < 0) (hkl : k < a11 p.toNatClampNeg) (hv : vp_in ((60 * p) + k) 180) (hl : a12 ((60 * p) + k).toNatClampNeg = l) (hl1 : ¬ l = -1) (hl60 : vp_in l 60) (h4 : a4 l.toNatClampNeg = r)
    (H : post r (c, a1, a2, a3, a4, a5, a6, a7, a8, a9, a10, a11, a12)) : wpX_content post (c, a1, a2, a3, a4, a5, a6, a7, a8, a9, a10, a11, a12) p k := by
  subst h4 hl
  unfold wpX_content
  refine pg_bad hp (br_t rfl (pg_writeW hp h10 ?_))
  refine br_f hk ⟨hp.2.2.1, br_t hkl ⟨hv, ?_⟩⟩
  exact br_f hl1 ⟨hl60, H⟩
theorem pg_conflicts {post : Int32 → Prop} (hc : c = 2) (hp : pg_S p) (h6 : a6 p.toNatClampNeg = 3) (h7 : a7 p.toNatClampNeg = 0) (hi0 : ¬ a1 (0 : Int32).toNatClampNeg = 0) (hi1 : ¬ a1 (1 : Int32).toNatClampNeg = 0) (h80 : a8 ((60 * p) + 0).toNatClampNeg = 0) (h81 : a8 ((60 * p) + 1).toNatClampNeg = 0) (h90 : a9 ((60 * p) + 0).toNatClampNeg = 0) (h91 : a9 ((60 * p) + 1).toNatClampNeg = 0)
    (H : post 1) : wpX_conflicts post (c, a1, a2, a3, a4, a5, a6, a7, a8, a9, a10, a11, a12) p := by
  subst hc
  unfold wpX_conflicts
  refine pg_bad hp (br_t rfl (pg_lo2 rfl hp h6 h7 hi0 hi1 ⟨3, ?_⟩))
  refine br_f (by decide) (pg_hb1 3 rfl (by decide +kernel) (br_f (by decide) ⟨hp.2.2.2.1, nm_r h80 ⟨hp.2.2.2.1, nm_r h90 (pg_bit 1 (by decide +kernel) ?_)⟩⟩))
  refine nm_r (show ((((0 : Int64) &&& (0 ^^^ (-1))) ||| (0 &&& (0 ^^^ (-1)))) ||| 1) = 1 by decide +kernel) (pg_bits 2 (by decide +kernel) (by decide +kernel) (by decide +kernel) ?_)
  refine nm_r (show (0 : Int32) + 1 = 1 by decide) (nm_r (show (0 : Int32) + 1 = 1 by decide) ?_)
  refine br_f (by decide) (pg_hb1 3 rfl (by decide +kernel) (br_f (by decide) ⟨hp.2.2.2.2, nm_r h81 ⟨hp.2.2.2.2, nm_r h91 (pg_bit 2 (by decide +kernel) ?_)⟩⟩))
  refine nm_r (show ((((0 : Int64) &&& (0 ^^^ (-1))) ||| (0 &&& (0 ^^^ (-1)))) ||| 2) = 2 by decide +kernel) (pg_bits 1 (by decide +kernel) (by decide +kernel) (by decide +kernel) ?_)
  refine nm_r (show (1 : Int32) + 1 = 2 by decide) (nm_r (show (1 : Int32) + 1 = 2 by decide) ?_)
  refine br_t (by decide) ⟨by decide, ?_⟩
  exact ek_v (show (2 : Int32) / 2 = 1 by decide) H
theorem pg_agree {post : Int32 → Prop} (hp : pg_S p) (hq : pg_S q) (h : ¬ a6 p.toNatClampNeg = a6 q.toNatClampNeg) (H : post 0) : wpX_agree post (c, a1, a2, a3, a4, a5, a6, a7, a8, a9, a10, a11, a12) p q := by
  unfold wpX_agree
  exact pg_bad hp (br_t rfl (pg_bad hq (br_t rfl ⟨hp.2.2.1, hq.2.2.1, br_f h H⟩)))
end
end
section
/-! ===== the law ===== -/
/-- the two stores that the law picks -/
def pg_P (s t : Int32) : Prop := (s = 0 ∧ t = 1) ∨ (s = 0 ∧ t = 2) ∨ (s = 1 ∧ t = 2) ∨ (s = 1 ∧ t = 0) ∨ (s = 2 ∧ t = 0) ∨ (s = 2 ∧ t = 1)
theorem pg_pick0 : ∀ j : Fin 4, ∀ i : Fin 2, pg_P (nI j.val - nI j.val / 3 * 3) (((nI j.val - nI j.val / 3 * 3 + 1) + nI i.val) - ((nI j.val - nI j.val / 3 * 3 + 1) + nI i.val) / 3 * 3) := by
  unfold pg_P
  decide +kernel
theorem pg_pick (z : Int32) : ∃ s t : Int32, pg_P s t ∧ (z &&& 3) - (z &&& 3) / 3 * 3 = s ∧ ((s + 1) + ((z >>> ((2 : Int32) &&& 31)) &&& 1)) - ((s + 1) + ((z >>> ((2 : Int32) &&& 31)) &&& 1)) / 3 * 3 = t := by
  obtain ⟨j, hj, ej⟩ := pk_andE z (m := 3) 2 (by decide)
  obtain ⟨i, hi, ei⟩ := pk_andE (z >>> ((2 : Int32) &&& 31)) (m := 1) 1 (by decide)
  rw [ej, ei]
  exact ⟨_, _, pg_pick0 ⟨j, hj⟩ ⟨i, hi⟩, rfl, rfl⟩
theorem pg_law {post : Int32 → St0 → Prop} {x y z : Int32} (H : post 1 ()) : wpL_lawOf post 13 865 () x y z := by
  obtain ⟨s, t, hst, es, et⟩ := pg_pick z
  refine ⟨by decide, by decide, 12, 852, by decide, by decide, ?_⟩
  refine ⟨by decide, by decide, by decide, by decide, by decide, by decide, by decide, by decide, by decide, by decide, by decide, by decide, by decide, by decide, by decide, by decide, by decide, by decide, by decide, by decide, by decide, by decide, by decide, by decide, ?_⟩
  refine ⟨by decide, nm_r es ⟨by decide, nm_r et ?_⟩⟩
  have hs : pg_S s := by
    rcases hst with h | h | h | h | h | h <;> rw [h.1] <;> first | exact pg_S0 | exact pg_S1 | exact pg_S2
  have ht : pg_S t := by
    rcases hst with h | h | h | h | h | h <;> rw [h.2] <;> first | exact pg_S0 | exact pg_S1 | exact pg_S2
  clear es et
  rcases hst with ⟨rfl, rfl⟩ | ⟨rfl, rfl⟩ | ⟨rfl, rfl⟩ | ⟨rfl, rfl⟩ | ⟨rfl, rfl⟩ | ⟨rfl, rfl⟩
  all_goals
    refine pg_put 1 (by decide +kernel) 1 (by decide) hs pg_i0 (by decide) hs.2.2.2.1 (by decide +kernel) (fun Q h => pg_lo0 rfl h) ?_
    refine pg_put 2 (by decide +kernel) 2 (by decide) ht pg_i1 (by decide) ht.2.2.2.2 (by decide +kernel) (fun Q h => pg_lo1 rfl ht (by decide +kernel) h) ?_
    refine pg_pull rfl hs ht (by decide) (by decide +kernel) (by decide +kernel) (by decide +kernel) (by decide +kernel) (by decide +kernel) ?_
    refine pg_length rfl ht (by decide +kernel) (by decide +kernel) (by decide +kernel) (by decide +kernel) (by decide +kernel) (by decide +kernel) (by decide +kernel) ?_
    refine pg_content 0 0 x ht (by decide +kernel) (by decide) (by decide +kernel) ht.2.2.2.1 (by decide +kernel) (by decide) pg_i0 rfl ?_
    refine pg_content 1 1 y ht (by decide +kernel) (by decide) (by decide +kernel) ht.2.2.2.2 (by decide +kernel) (by decide) pg_i1 rfl ?_
    refine pg_conflicts rfl ht (by decide +kernel) (by decide +kernel) (by decide +kernel) (by decide +kernel) (by decide +kernel) (by decide +kernel) (by decide +kernel) (by decide +kernel) ?_
    refine pg_agree hs ht (by decide +kernel) ?_
    exact br_t rfl (br_t rfl (br_t rfl (br_t rfl (br_t rfl (br_t rfl H)))))
theorem pg_cell {post : Int32 → Prop} {L : Nat} {xs : Nat → Int32} (k : Nat) {i : Int32} (hL : L ≤ 3) (hk : k < 3) (hi : i = nI k) (H : ∀ r, post r) : wpL_cellAt post L xs () i :=
  pk_le L k (fun _ => H _) (fun h => ⟨pk_in k L h hi (by omega), H _⟩) rfl hi (by omega) (by omega)
theorem i_vc (xs : Nat → Int32) (L : Nat) (hL : L ≤ 3) : wpL_law (fun r => r = 1) L xs :=
  pg_cell 0 hL (by decide) rfl (fun _ => pg_cell 1 hL (by decide) rfl (fun _ => pg_cell 2 hL (by decide) rfl (fun _ => ⟨13, 865, by decide, by decide, pg_law rfl⟩)))
end
