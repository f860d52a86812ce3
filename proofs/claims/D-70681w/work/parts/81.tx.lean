set_option maxRecDepth 100000
/-! flat states of the reading -/
def rd (n li hg a f so va : Int32) (md : gS) (xi : gXI) (tp : Nat → Int32) : gRd := (n, li, hg, a, f, so, va, md, xi, tp)
theorem rd__size (n li hg a f so va : Int32) (md : gS) (xi : gXI) (tp : Nat → Int32) : R_size (rd n li hg a f so va md xi tp) = n := rfl
theorem rd__lines (n li hg a f so va : Int32) (md : gS) (xi : gXI) (tp : Nat → Int32) : R_lines (rd n li hg a f so va md xi tp) = li := rfl
theorem rd__highest (n li hg a f so va : Int32) (md : gS) (xi : gXI) (tp : Nat → Int32) : R_highest (rd n li hg a f so va md xi tp) = hg := rfl
theorem rd__at (n li hg a f so va : Int32) (md : gS) (xi : gXI) (tp : Nat → Int32) : R_at (rd n li hg a f so va md xi tp) = a := rfl
theorem rd__from (n li hg a f so va : Int32) (md : gS) (xi : gXI) (tp : Nat → Int32) : R_from (rd n li hg a f so va md xi tp) = f := rfl
theorem rd__sort (n li hg a f so va : Int32) (md : gS) (xi : gXI) (tp : Nat → Int32) : R_sort (rd n li hg a f so va md xi tp) = so := rfl
theorem rd__value (n li hg a f so va : Int32) (md : gS) (xi : gXI) (tp : Nat → Int32) : R_value (rd n li hg a f so va md xi tp) = va := rfl
theorem rd__made (n li hg a f so va : Int32) (md : gS) (xi : gXI) (tp : Nat → Int32) : R_made (rd n li hg a f so va md xi tp) = md := rfl
theorem rd__xi (n li hg a f so va : Int32) (md : gS) (xi : gXI) (tp : Nat → Int32) : R_xi (rd n li hg a f so va md xi tp) = xi := rfl
theorem rd__tape (n li hg a f so va : Int32) (md : gS) (xi : gXI) (tp : Nat → Int32) : R_tape (rd n li hg a f so va md xi tp) = tp := rfl
theorem rd_lines (n li hg a f so va : Int32) (md : gS) (xi : gXI) (tp : Nat → Int32) (v : Int32) : R_lines_s (rd n li hg a f so va md xi tp) v = rd n v hg a f so va md xi tp := rfl
theorem rd_highest (n li hg a f so va : Int32) (md : gS) (xi : gXI) (tp : Nat → Int32) (v : Int32) : R_highest_s (rd n li hg a f so va md xi tp) v = rd n li v a f so va md xi tp := rfl
theorem rd_at (n li hg a f so va : Int32) (md : gS) (xi : gXI) (tp : Nat → Int32) (v : Int32) : R_at_s (rd n li hg a f so va md xi tp) v = rd n li hg v f so va md xi tp := rfl
theorem rd_from (n li hg a f so va : Int32) (md : gS) (xi : gXI) (tp : Nat → Int32) (v : Int32) : R_from_s (rd n li hg a f so va md xi tp) v = rd n li hg a v so va md xi tp := rfl
theorem rd_sort (n li hg a f so va : Int32) (md : gS) (xi : gXI) (tp : Nat → Int32) (v : Int32) : R_sort_s (rd n li hg a f so va md xi tp) v = rd n li hg a f v va md xi tp := rfl
theorem rd_value (n li hg a f so va : Int32) (md : gS) (xi : gXI) (tp : Nat → Int32) (v : Int32) : R_value_s (rd n li hg a f so va md xi tp) v = rd n li hg a f so v md xi tp := rfl
theorem rd_made (n li hg a f so va : Int32) (md : gS) (xi : gXI) (tp : Nat → Int32) (v : gS) : R_made_s (rd n li hg a f so va md xi tp) v = rd n li hg a f so va v xi tp := rfl
def tx (τ : gM) (br ba sp he tk va ro tl hi : Int32) (pg : Nat → Int32) : gM := (M_oneMany τ, ro, tl, hi, M_taped τ, M_fault τ, br, ba, sp, he, tk, va, M_weptBits τ, M_weptTimes τ, M_firstNot τ, M_seenMany τ, M_torn τ, M_state τ, M_brims τ, pg, M_tape τ, M_cuts τ, M_letters τ, M_seen τ, M_goneBy τ, M_isKept τ, M_lanes τ, M_lengths τ, M_cells τ)
theorem tx__oneMany (τ : gM) (br ba sp he tk va ro tl hi : Int32) (pg : Nat → Int32) : M_oneMany (tx τ br ba sp he tk va ro tl hi pg) = M_oneMany τ := rfl
theorem tx__readOnes (τ : gM) (br ba sp he tk va ro tl hi : Int32) (pg : Nat → Int32) : M_readOnes (tx τ br ba sp he tk va ro tl hi pg) = ro := rfl
theorem tx__toldOnce (τ : gM) (br ba sp he tk va ro tl hi : Int32) (pg : Nat → Int32) : M_toldOnce (tx τ br ba sp he tk va ro tl hi pg) = tl := rfl
theorem tx__high (τ : gM) (br ba sp he tk va ro tl hi : Int32) (pg : Nat → Int32) : M_high (tx τ br ba sp he tk va ro tl hi pg) = hi := rfl
theorem tx__taped (τ : gM) (br ba sp he tk va ro tl hi : Int32) (pg : Nat → Int32) : M_taped (tx τ br ba sp he tk va ro tl hi pg) = M_taped τ := rfl
theorem tx__fault (τ : gM) (br ba sp he tk va ro tl hi : Int32) (pg : Nat → Int32) : M_fault (tx τ br ba sp he tk va ro tl hi pg) = M_fault τ := rfl
theorem tx__broken (τ : gM) (br ba sp he tk va ro tl hi : Int32) (pg : Nat → Int32) : M_broken (tx τ br ba sp he tk va ro tl hi pg) = br := rfl
theorem tx__brokenAt (τ : gM) (br ba sp he tk va ro tl hi : Int32) (pg : Nat → Int32) : M_brokenAt (tx τ br ba sp he tk va ro tl hi pg) = ba := rfl
theorem tx__spot (τ : gM) (br ba sp he tk va ro tl hi : Int32) (pg : Nat → Int32) : M_spot (tx τ br ba sp he tk va ro tl hi pg) = sp := rfl
theorem tx__here (τ : gM) (br ba sp he tk va ro tl hi : Int32) (pg : Nat → Int32) : M_here (tx τ br ba sp he tk va ro tl hi pg) = he := rfl
theorem tx__token (τ : gM) (br ba sp he tk va ro tl hi : Int32) (pg : Nat → Int32) : M_token (tx τ br ba sp he tk va ro tl hi pg) = tk := rfl
theorem tx__value (τ : gM) (br ba sp he tk va ro tl hi : Int32) (pg : Nat → Int32) : M_value (tx τ br ba sp he tk va ro tl hi pg) = va := rfl
theorem tx__weptBits (τ : gM) (br ba sp he tk va ro tl hi : Int32) (pg : Nat → Int32) : M_weptBits (tx τ br ba sp he tk va ro tl hi pg) = M_weptBits τ := rfl
theorem tx__weptTimes (τ : gM) (br ba sp he tk va ro tl hi : Int32) (pg : Nat → Int32) : M_weptTimes (tx τ br ba sp he tk va ro tl hi pg) = M_weptTimes τ := rfl
theorem tx__firstNot (τ : gM) (br ba sp he tk va ro tl hi : Int32) (pg : Nat → Int32) : M_firstNot (tx τ br ba sp he tk va ro tl hi pg) = M_firstNot τ := rfl
theorem tx__seenMany (τ : gM) (br ba sp he tk va ro tl hi : Int32) (pg : Nat → Int32) : M_seenMany (tx τ br ba sp he tk va ro tl hi pg) = M_seenMany τ := rfl
theorem tx__torn (τ : gM) (br ba sp he tk va ro tl hi : Int32) (pg : Nat → Int32) : M_torn (tx τ br ba sp he tk va ro tl hi pg) = M_torn τ := rfl
theorem tx__state (τ : gM) (br ba sp he tk va ro tl hi : Int32) (pg : Nat → Int32) : M_state (tx τ br ba sp he tk va ro tl hi pg) = M_state τ := rfl
theorem tx__brims (τ : gM) (br ba sp he tk va ro tl hi : Int32) (pg : Nat → Int32) : M_brims (tx τ br ba sp he tk va ro tl hi pg) = M_brims τ := rfl
theorem tx__readPage (τ : gM) (br ba sp he tk va ro tl hi : Int32) (pg : Nat → Int32) : M_readPage (tx τ br ba sp he tk va ro tl hi pg) = pg := rfl
theorem tx__tape (τ : gM) (br ba sp he tk va ro tl hi : Int32) (pg : Nat → Int32) : M_tape (tx τ br ba sp he tk va ro tl hi pg) = M_tape τ := rfl
theorem tx__cuts (τ : gM) (br ba sp he tk va ro tl hi : Int32) (pg : Nat → Int32) : M_cuts (tx τ br ba sp he tk va ro tl hi pg) = M_cuts τ := rfl
theorem tx__letters (τ : gM) (br ba sp he tk va ro tl hi : Int32) (pg : Nat → Int32) : M_letters (tx τ br ba sp he tk va ro tl hi pg) = M_letters τ := rfl
theorem tx__seen (τ : gM) (br ba sp he tk va ro tl hi : Int32) (pg : Nat → Int32) : M_seen (tx τ br ba sp he tk va ro tl hi pg) = M_seen τ := rfl
theorem tx__goneBy (τ : gM) (br ba sp he tk va ro tl hi : Int32) (pg : Nat → Int32) : M_goneBy (tx τ br ba sp he tk va ro tl hi pg) = M_goneBy τ := rfl
theorem tx__isKept (τ : gM) (br ba sp he tk va ro tl hi : Int32) (pg : Nat → Int32) : M_isKept (tx τ br ba sp he tk va ro tl hi pg) = M_isKept τ := rfl
theorem tx__lanes (τ : gM) (br ba sp he tk va ro tl hi : Int32) (pg : Nat → Int32) : M_lanes (tx τ br ba sp he tk va ro tl hi pg) = M_lanes τ := rfl
theorem tx__lengths (τ : gM) (br ba sp he tk va ro tl hi : Int32) (pg : Nat → Int32) : M_lengths (tx τ br ba sp he tk va ro tl hi pg) = M_lengths τ := rfl
theorem tx__cells (τ : gM) (br ba sp he tk va ro tl hi : Int32) (pg : Nat → Int32) : M_cells (tx τ br ba sp he tk va ro tl hi pg) = M_cells τ := rfl
theorem tx_broken (τ : gM) (br ba sp he tk va ro tl hi : Int32) (pg : Nat → Int32) (v : Int32) : M_broken_s (tx τ br ba sp he tk va ro tl hi pg) v = tx τ v ba sp he tk va ro tl hi pg := rfl
theorem tx_brokenAt (τ : gM) (br ba sp he tk va ro tl hi : Int32) (pg : Nat → Int32) (v : Int32) : M_brokenAt_s (tx τ br ba sp he tk va ro tl hi pg) v = tx τ br v sp he tk va ro tl hi pg := rfl
theorem tx_spot (τ : gM) (br ba sp he tk va ro tl hi : Int32) (pg : Nat → Int32) (v : Int32) : M_spot_s (tx τ br ba sp he tk va ro tl hi pg) v = tx τ br ba v he tk va ro tl hi pg := rfl
theorem tx_here (τ : gM) (br ba sp he tk va ro tl hi : Int32) (pg : Nat → Int32) (v : Int32) : M_here_s (tx τ br ba sp he tk va ro tl hi pg) v = tx τ br ba sp v tk va ro tl hi pg := rfl
theorem tx_token (τ : gM) (br ba sp he tk va ro tl hi : Int32) (pg : Nat → Int32) (v : Int32) : M_token_s (tx τ br ba sp he tk va ro tl hi pg) v = tx τ br ba sp he v va ro tl hi pg := rfl
theorem tx_value (τ : gM) (br ba sp he tk va ro tl hi : Int32) (pg : Nat → Int32) (v : Int32) : M_value_s (tx τ br ba sp he tk va ro tl hi pg) v = tx τ br ba sp he tk v ro tl hi pg := rfl
theorem tx_readOnes (τ : gM) (br ba sp he tk va ro tl hi : Int32) (pg : Nat → Int32) (v : Int32) : M_readOnes_s (tx τ br ba sp he tk va ro tl hi pg) v = tx τ br ba sp he tk va v tl hi pg := rfl
theorem tx_toldOnce (τ : gM) (br ba sp he tk va ro tl hi : Int32) (pg : Nat → Int32) (v : Int32) : M_toldOnce_s (tx τ br ba sp he tk va ro tl hi pg) v = tx τ br ba sp he tk va ro v hi pg := rfl
theorem tx_high (τ : gM) (br ba sp he tk va ro tl hi : Int32) (pg : Nat → Int32) (v : Int32) : M_high_s (tx τ br ba sp he tk va ro tl hi pg) v = tx τ br ba sp he tk va ro tl v pg := rfl
theorem tx_readPage (τ : gM) (br ba sp he tk va ro tl hi : Int32) (pg : Nat → Int32) (v : Nat → Int32) : M_readPage_s (tx τ br ba sp he tk va ro tl hi pg) v = tx τ br ba sp he tk va ro tl hi v := rfl
theorem tx_0 (τ : gM) : τ = tx τ (M_broken τ) (M_brokenAt τ) (M_spot τ) (M_here τ) (M_token τ) (M_value τ) (M_readOnes τ) (M_toldOnce τ) (M_high τ) (M_readPage τ) := rfl
theorem gcx_l {S1 S : Type} {r : Int32} {u : S1} {lift : S1 → S} {K : Int32 → S1 → Option (gR S)} : gcx (some (.inl (r, u))) lift K = K r u := rfl
theorem gcx_r {S1 S : Type} {co pl : Int32} {u : S1} {lift : S1 → S} {K : Int32 → S1 → Option (gR S)} : gcx (some (.inr (co, pl, u))) lift K = some (.inr (co, pl, lift u)) := rfl
