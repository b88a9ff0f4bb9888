theorem TR.num {tp : Row} {a b : Nat} {t v lo hi : Int32} {S : MSt} (h : TR tp a b t v S) : (S.so = 2 ∧ p_in S.va lo hi) ↔ (t = 1 ∧ p_in v lo hi) := by
  rcases h.hk with ⟨h1, h2⟩ | ⟨h1, h2, h3⟩ | ⟨h1, h2, -⟩ | ⟨h1, h2, -⟩
  · exact ⟨fun z => absurd (h2.symm.trans z.1) (by decide), fun z => absurd (h1.symm.trans z.1) (by decide)⟩
  · rw [h3]
    exact ⟨fun z => ⟨h1, z.2⟩, fun z => ⟨h2, z.2⟩⟩
  · exact ⟨fun z => absurd (h2.symm.trans z.1) (by decide), fun z => absurd (h1.symm.trans z.1) (by decide)⟩
  · exact ⟨fun z => absurd (h2.symm.trans z.1) (by decide), fun z => absurd (h1.symm.trans z.1) (by decide)⟩
theorem TR.val {tp : Row} {a b : Nat} {t v : Int32} {S : MSt} (h : TR tp a b t v S) (h1 : t = 1) : S.va = v := by
  rcases h.hk with ⟨q, -⟩ | ⟨-, -, q⟩ | ⟨q, -⟩ | ⟨q, -⟩
  · exact absurd (h1.symm.trans q) (by decide)
  · exact q
  · exact absurd (h1.symm.trans q) (by decide)
  · exact absurd (h1.symm.trans q) (by decide)
theorem TR.wd {tp : Row} {a b j : Nat} {t v : Int32} {S : MSt} (h : TR tp a b t v S) (hj : j < 18) : p_wd tp (wx j) S ↔ (t = 2 ∧ v = nI j) := by
  rcases h.hk with ⟨h1, h2⟩ | ⟨h1, h2, -⟩ | ⟨h1, h2, -, h3⟩ | ⟨h1, h2, -⟩
  · exact ⟨fun z => absurd (h2.symm.trans z.1) (by decide), fun z => absurd (h1.symm.trans z.1) (by decide)⟩
  · exact ⟨fun z => absurd (h2.symm.trans z.1) (by decide), fun z => absurd (h1.symm.trans z.1) (by decide)⟩
  · exact ⟨fun z => ⟨h1, (h3 j hj).mp z⟩, fun z => (h3 j hj).mpr z.2⟩
  · exact ⟨fun z => absurd (h2.symm.trans z.1) (by decide), fun z => absurd (h1.symm.trans z.1) (by decide)⟩
theorem TR.v18 {tp : Row} {a b : Nat} {t v : Int32} {S : MSt} (h : TR tp a b t v S) (h2 : t = 2) : ∃ m, m < 18 ∧ v = nI m := by
  rcases h.hk with ⟨q, -⟩ | ⟨q, -⟩ | ⟨-, -, q, -⟩ | ⟨q, -⟩
  · exact absurd (h2.symm.trans q) (by decide)
  · exact absurd (h2.symm.trans q) (by decide)
  · exact vp_in_of q (by decide)
  · exact absurd (h2.symm.trans q) (by decide)
theorem TR.semi {tp : Row} {a b : Nat} {t v : Int32} {S : MSt} (h : TR tp a b t v S) : (S.wr = 0 ∧ S.so = 3 ∧ mt tp S.bg = 59) ↔ t = 3 := by
  rcases h.hk with ⟨h1, h2⟩ | ⟨h1, h2, -⟩ | ⟨h1, h2, -⟩ | ⟨h1, h2, h3⟩
  · exact ⟨fun z => absurd (h2.symm.trans z.2.1) (by decide), fun z => absurd (h1.symm.trans z) (by decide)⟩
  · exact ⟨fun z => absurd (h2.symm.trans z.2.1) (by decide), fun z => absurd (h1.symm.trans z) (by decide)⟩
  · exact ⟨fun z => absurd (h2.symm.trans z.2.1) (by decide), fun z => absurd (h1.symm.trans z) (by decide)⟩
  · exact ⟨fun _ => h1, fun _ => ⟨h.hw, h2, h3⟩⟩
theorem TR.fin {tp : Row} {a b : Nat} {t v : Int32} {S : MSt} (h : TR tp a b t v S) : S.so = 0 ↔ t = 0 := by
  rcases h.hk with ⟨h1, h2⟩ | ⟨h1, h2, -⟩ | ⟨h1, h2, -⟩ | ⟨h1, h2, h3⟩
  · exact ⟨fun _ => h1, fun _ => h2⟩
  · exact ⟨fun z => absurd (h2.symm.trans z) (by decide), fun z => absurd (h1.symm.trans z) (by decide)⟩
  · exact ⟨fun z => absurd (h2.symm.trans z) (by decide), fun z => absurd (h1.symm.trans z) (by decide)⟩
  · exact ⟨fun z => absurd (h2.symm.trans z) (by decide), fun z => absurd (h1.symm.trans z) (by decide)⟩
def Stk (tp : Row) (b : Nat) (S : MSt) : Prop := S.bg = b ∧ (¬ S.wr = 0 ∨ Bad tp S)
theorem stk_must {P : Prop} [Decidable P] {tp : Row} {L b : Nat} {S : MSt} (hP : Bad tp S → ¬ P) (h : Stk tp b S) : Stk tp b (n_must P tp L S) := by
  rw [nmust_n (fun z => h.2.elim (fun q => q z.1) (fun q => hP q z.2))]
  exact ⟨h.1, Or.inl (by show ¬ (1 : Int32) = 0; decide)⟩
theorem stk_num {lo hi : Int32} {tp : Row} {L b : Nat} {S : MSt} (hh : hi < 1000) (h : Stk tp b S) : Stk tp b (n_num lo hi tp L S) :=
  stk_must (fun q z => z.2.2 (by rw [q.2.2.1 z.1]; exact hh)) h
theorem stk_wof {tp : Row} {b base n : Nat} {S : MSt} (hb : 0 < base) (hn : base + n ≤ 19) (h : Stk tp b S) : n_wof tp base n S < 0 := by
  by_cases c : n_wof tp base n S < 0
  · exact c
  · obtain ⟨h0, k, hk, hw⟩ := wof_some c
    exact absurd hw (h.2.elim (fun q => absurd h0 q) (fun q => q.1 _ (by omega) (by omega)))
theorem stk_head {tp : Row} {L b : Nat} {S : MSt} (h : Stk tp b S) : Stk tp b (n_head tp L S) := by
  unfold n_head
  rw [if_pos (stk_wof (by decide) (by decide) h)]
  exact h
theorem stk_aft {i : Nat} {lo oth : Int32} {tp : Row} {L b : Nat} {S : MSt} (hi : i < 19) (h0 : ¬ i = 0) (h : Stk tp b S) : Stk tp b (n_aft i lo oth tp L S).1 := by
  unfold n_aft
  rw [if_neg (fun z => h.2.elim (fun q => q z.1) (fun q => q.1 i hi h0 z.2))]
  exact h
theorem stk_item {tp : Row} {L b : Nat} {S : MSt} {sn : Int32} (h : Stk tp b S) : Stk tp b (n_item tp L S sn).1 := by
  unfold n_item
  rw [if_pos (stk_wof (by decide) (by decide) h)]
  split
  · rename_i c
    rw [nmouse_1]
    exact stk_aft (by decide) (by decide) (stk_aft (by decide) (by decide) (stk_head (stk_num (by decide) (stk_must (fun q _ => q.1 13 (by decide) (by decide) c) h))))
  · split
    · rename_i c
      rw [nlie_1]
      exact stk_num (by decide) (stk_num (by decide) (stk_must (fun q _ => q.1 16 (by decide) (by decide) c) h))
    · split
      · rename_i c
        rw [nlie_1]
        exact stk_num (by decide) (stk_num (by decide) (stk_must (fun q _ => q.1 17 (by decide) (by decide) c) h))
      · rw [nowl_1]
        exact stk_head (stk_num (by decide) (stk_must (fun q => q.1 18 (by decide) (by decide)) h))
theorem stk_loop {tp it : Row} {L f b im : Nat} {S : MSt} {sn : Int32} (h : Stk tp b S) : n_loop tp L f S sn it im = (S, sn, it, im) :=
  nloop_f (fun z => h.2.elim (fun q => q z.1) (fun q => q.2.2.2 z.2.1 z.2.2))
theorem stk_fin {tp : Row} {L b : Nat} {S : MSt} (h : Stk tp b S) : (n_fin tp L S).bg = b ∧ ¬ (n_fin tp L S).wr = 0 := by
  unfold n_fin
  rw [nmust_n (fun z => h.2.elim (fun q => q z.1) (fun q => q.2.1 z.2))]
  exact ⟨h.1, by show ¬ (1 : Int32) = 0; decide⟩
def RR (tp : Row) (s : RS) (ok : Bool) (S : MSt) : Prop := if ok = true then TR tp s.1 s.2.1 s.2.2.1 s.2.2.2 S else Stk tp s.2.1 S
theorem next_RR {tp : Row} {L a : Nat} {t v : Int32} {S : MSt} (ha : a ≤ L) (he : S.en = a) (hw : S.wr = 0) : RR tp (c_next tp L a t v).1 (c_next tp L a t v).2 (n_next tp L S) := by
  rcases e : c_next tp L a t v with ⟨⟨a1, b1, t1, v1⟩, ok⟩
  cases ok
  · have := next_B ha he hw e
    exact ⟨this.1, Or.inr this.2⟩
  · exact next_R ha he hw e
theorem must_RR {P : Prop} [Decidable P] {tp : Row} {L a b : Nat} {t v : Int32} {S : MSt} (hP : P) (ha : a ≤ L) (h : TR tp a b t v S) : RR tp (c_next tp L a t v).1 (c_next tp L a t v).2 (n_must P tp L S) := by
  rw [nmust_p h.hw hP]
  exact next_RR ha h.he h.hw
theorem num_RR {tp : Row} {L a b : Nat} {lo hi t v : Int32} {S : MSt} (ha : a ≤ L) (h : TR tp a b t v S) : RR tp (c_num tp L lo hi a b t v).1 (c_num tp L lo hi a b t v).2 (n_num lo hi tp L S) := by
  unfold c_num n_num
  by_cases c : t = 1 ∧ p_in v lo hi
  · rw [if_pos c]
    exact must_RR (h.num.mpr c) ha h
  · rw [if_neg c, nmust_n (fun z => c (h.num.mp z.2))]
    exact ⟨h.hb, Or.inl (by show ¬ (1 : Int32) = 0; decide)⟩
theorem beh_RR {P : Prop} [Decidable P] {tp : Row} {L a b : Nat} {lo hi t v : Int32} {S : MSt} (hP : P) (hL : L ≤ 120) (ha : a ≤ L) (hh : hi < 1000) (h : TR tp a b t v S) : RR tp (c_beh tp L lo hi a t v).1 (c_beh tp L lo hi a t v).2.1 (n_num lo hi tp L (n_must P tp L S)) ∧ ((c_beh tp L lo hi a t v).2.1 = true → (n_must P tp L S).va = (c_beh tp L lo hi a t v).2.2) := by
  have hr := must_RR hP ha h
  rcases e : c_next tp L a t v with ⟨⟨a2, b2, t2, v2⟩, ok2⟩
  rw [e] at hr
  have l2 := next_L ha e
  cases ok2
  · rw [beh_f e]
    exact ⟨stk_num hh hr, fun z => absurd (show false = true from z) (by decide)⟩
  · rw [beh_t e]
    have hr : TR tp a2 b2 t2 v2 (n_must P tp L S) := hr
    refine ⟨num_RR l2.1 hr, fun z => ?_⟩
    have z : (c_num tp L lo hi a2 b2 t2 v2).2 = true := z
    unfold c_num at z
    split at z
    · rename_i c
      exact hr.val c.1
    · exact absurd (show false = true from z) (by decide)
theorem wof_out {tp : Row} {base n : Nat} {S : MSt} (h : ∀ k, k < n → ¬ p_wd tp (base + k) S) : n_wof tp base n S = -1 := by
  unfold n_wof
  split
  · have : ∀ m, m ≤ n → p_last (fun k => p_wd tp (base + k) S) m = -1 := by
      intro m
      induction m with
      | zero => intro _; rfl
      | succ m ih =>
        intro hm
        show (if p_wd tp (base + m) S then nI m else p_last (fun k => p_wd tp (base + k) S) m) = -1
        rw [if_neg (h m (by omega))]
        exact ih (by omega)
    exact this n (Nat.le_refl _)
  · rfl
theorem wof_in {tp : Row} {base n m : Nat} {S : MSt} (h0 : S.wr = 0) (hm : m < n) (h : p_wd tp (base + m) S) (hu : ∀ k, k < n → p_wd tp (base + k) S → k = m) : n_wof tp base n S = nI m := by
  unfold n_wof
  rw [if_pos h0]
  have : ∀ j, m < j → j ≤ n → p_last (fun k => p_wd tp (base + k) S) j = nI m := by
    intro j
    induction j with
    | zero => intro q _; omega
    | succ j ih =>
      intro q hj
      show (if p_wd tp (base + j) S then nI j else p_last (fun k => p_wd tp (base + k) S) j) = nI m
      by_cases c : p_wd tp (base + j) S
      · rw [if_pos c, hu j (by omega) c]
      · rw [if_neg c]
        have : ¬ j = m := fun z => c (z ▸ h)
        exact ih (by omega) (by omega)
  exact this n hm (Nat.le_refl _)
theorem wx_h : ∀ k, k < 4 → 8 + k = wx (11 + k) := by decide
theorem wx_k : ∀ k, k < 7 → 1 + k = wx (0 + k) := by decide
theorem wof_R {tp : Row} {a b base n off : Nat} {t v : Int32} {S : MSt} (hx : ∀ k, k < n → base + k = wx (off + k)) (ho : off + n ≤ 18) (h : TR tp a b t v S) : (∀ m, t = 2 → v = nI m → off ≤ m → m < off + n → n_wof tp base n S = nI (m - off)) ∧ ((∀ m, m < 18 → t = 2 → v = nI m → ¬ (off ≤ m ∧ m < off + n)) → n_wof tp base n S = -1) := by
  refine ⟨fun m ht hv h1 h2 => ?_, fun hn => ?_⟩
  · refine wof_in h.hw (by omega) ?_ (fun k hk z => ?_)
    · rw [hx _ (by omega)]
      exact (h.wd (by omega)).mpr ⟨ht, by rw [hv, show off + (m - off) = m by omega]⟩
    · rw [hx k hk] at z
      have := ((h.wd (by omega)).mp z).2
      rw [hv] at this
      have := (nI_eq (by omega) (by omega)).mp this
      omega
  · refine wof_out (fun k hk z => ?_)
    rw [hx k hk] at z
    have q := (h.wd (by omega)).mp z
    exact hn (off + k) (by omega) q.1 q.2 ⟨by omega, by omega⟩
theorem pin_nat {m lo hi : Nat} (hm : m < 1000) (hl : lo < 1000) (hh : hi < 1000) : p_in (nI m) (nI lo) (nI hi) ↔ lo ≤ m ∧ m ≤ hi := by
  have h1 := lt_nI hm hl
  have h2 := lt_nI hh hm
  constructor
  · intro ⟨a, b⟩
    have a' : ¬ m < lo := fun z => a (h1.mpr z)
    have b' : ¬ hi < m := fun z => b (h2.mpr z)
    omega
  · intro ⟨a, b⟩
    exact ⟨fun z => by have := h1.mp z; omega, fun z => by have := h2.mp z; omega⟩
theorem head_RR {tp : Row} {L a b : Nat} {was t v : Int32} {S : MSt} (ha : a ≤ L) (h : TR tp a b t v S) : RR tp (c_head tp L was a b t v).1 (c_head tp L was a b t v).2.1 (n_head tp L S) ∧ (if n_wof tp 8 4 S < 0 then was else n_wof tp 8 4 S) = (c_head tp L was a b t v).2.2 := by
  have hw := wof_R (base := 8) (n := 4) (off := 11) wx_h (by decide) h
  unfold c_head n_head
  by_cases c : t = 2 ∧ p_in v 11 14
  · rw [if_pos c]
    obtain ⟨m, hm, e⟩ := h.v18 c.1
    have hr := (pin_nat (m := m) (lo := 11) (hi := 14) (by omega) (by decide) (by decide)).mp (e ▸ c.2)
    have e2 := hw.1 m c.1 e hr.1 (by omega)
    have nn : ¬ n_wof tp 8 4 S < 0 := by rw [e2]; exact nI_nlt (a := m - 11) (b := 0) (by omega) (by omega)
    rw [if_neg nn, if_neg nn]
    refine ⟨must_RR trivial ha h, ?_⟩
    show n_wof tp 8 4 S = v - 11
    rw [e2, e]
    have : nI m = nI (m - 11) + nI 11 := by rw [nI_add]; congr 1; omega
    rw [this]
    exact (Int32.add_sub_cancel _ _).symm
  · rw [if_neg c]
    have e2 := hw.2 (fun m hm ht hv z => c ⟨ht, by rw [hv]; exact (pin_nat (m := m) (lo := 11) (hi := 14) (by omega) (by decide) (by decide)).mpr (by omega)⟩)
    have nn : n_wof tp 8 4 S < 0 := by rw [e2]; decide
    rw [if_pos nn, if_pos nn]
    exact ⟨h, rfl⟩
theorem opt_RR {tp to : Row} {L a b k j : Nat} {wd lo hi oth t v : Int32} {S : MSt} (hj : j < 18) (hwd : wd = nI j) (hL : L ≤ 120) (ha : a ≤ L) (hh : hi = 9) (hlo : ¬ lo < 0) (h : TR tp a b t v S) : RR tp (c_opt tp L wd lo hi k to a b t v).1 (c_opt tp L wd lo hi k to a b t v).2.1 (n_aft (wx j) lo oth tp L S).1 ∧ ((c_opt tp L wd lo hi k to a b t v).2.1 = true → ((c_opt tp L wd lo hi k to a b t v).2.2 = to ∧ (n_aft (wx j) lo oth tp L S).2 = oth) ∨ ((c_opt tp L wd lo hi k to a b t v).2.2 = upd to k (n_aft (wx j) lo oth tp L S).2 ∧ ¬ (n_aft (wx j) lo oth tp L S).2 < 0)) := by
  subst hh
  by_cases c : t = 2 ∧ v = wd
  · have hp : p_wd tp (wx j) S := (h.wd hj).mpr ⟨c.1, c.2.trans hwd⟩
    have ea : n_aft (wx j) lo oth tp L S = (n_num lo 9 tp L (n_must True tp L S), (n_must True tp L S).va) := if_pos ⟨h.hw, hp⟩
    rw [ea]
    have hb := beh_RR (P := True) (lo := lo) (hi := 9) trivial hL ha (by decide) h
    rcases e : c_beh tp L lo 9 a t v with ⟨⟨a2, b2, t2, v2⟩, ok2, x⟩
    rw [e] at hb
    cases ok2
    · rw [opt_f c e]
      exact ⟨hb.1, fun z => absurd (show false = true from z) (by decide)⟩
    · rw [opt_t c e]
      have ex : (n_must True tp L S).va = x := hb.2 rfl
      refine ⟨hb.1, fun _ => Or.inr ⟨by show upd to k x = upd to k (n_must True tp L S).va; rw [ex], ?_⟩⟩
      show ¬ (n_must True tp L S).va < 0
      rw [ex]
      exact in_nn (beh_in e) hlo
  · have hp : ¬ p_wd tp (wx j) S := fun z => c ⟨((h.wd hj).mp z).1, ((h.wd hj).mp z).2.trans hwd.symm⟩
    have ea : n_aft (wx j) lo oth tp L S = (S, oth) := if_neg (fun z => hp z.2)
    rw [ea, opt_n c]
    exact ⟨h, fun _ => Or.inl ⟨rfl, rfl⟩⟩
def T5 (q a b c d : Int32) (w : Row) : Row :=
  if q = 10 then upd (upd (p_tel (p_tel (p_tel w 4 b) 5 c) 6 d) 7 0) 3 a
  else if q = 11 then upd (p_tel w 9 b) 8 a
  else if q = 12 then upd w (20 + ix a) b
  else if q = 13 then upd w (56 + ix a) b
  else p_comes w q a b
abbrev T5r (r : MI) (w : Row) : Row := T5 r.2.2.1 r.2.2.2.1 r.2.2.2.2.1 r.2.2.2.2.2.1 r.2.2.2.2.2.2 w
def IR (tp : Row) (x : RS × Bool × Row) (r : MI) (w : Row) : Prop := RR tp x.1 x.2.1 r.1 ∧ (x.2.1 = true → x.2.2 = T5r r w ∧ r.2.1 = x.2.2 1 ∧ (r.2.2.1 = 12 ∨ r.2.2.1 = 13 → vp_in r.2.2.2.1 36) ∧ (¬ r.2.2.1 = 10 → ¬ r.2.2.1 = 11 → ¬ r.2.2.1 = 12 → ¬ r.2.2.1 = 13 → vp_in (w 1) 8))
