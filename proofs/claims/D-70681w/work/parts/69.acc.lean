set_option maxRecDepth 100000
/-! a field behind a setter -/
theorem M_oneMany__oneMany (σ : gM) (v : Int32) : M_oneMany (M_oneMany_s σ v) = v := rfl
theorem M_oneMany__readOnes (σ : gM) (v : Int32) : M_oneMany (M_readOnes_s σ v) = M_oneMany σ := rfl
theorem M_oneMany__toldOnce (σ : gM) (v : Int32) : M_oneMany (M_toldOnce_s σ v) = M_oneMany σ := rfl
theorem M_oneMany__high (σ : gM) (v : Int32) : M_oneMany (M_high_s σ v) = M_oneMany σ := rfl
theorem M_oneMany__taped (σ : gM) (v : Int32) : M_oneMany (M_taped_s σ v) = M_oneMany σ := rfl
theorem M_oneMany__fault (σ : gM) (v : Int32) : M_oneMany (M_fault_s σ v) = M_oneMany σ := rfl
theorem M_oneMany__broken (σ : gM) (v : Int32) : M_oneMany (M_broken_s σ v) = M_oneMany σ := rfl
theorem M_oneMany__brokenAt (σ : gM) (v : Int32) : M_oneMany (M_brokenAt_s σ v) = M_oneMany σ := rfl
theorem M_oneMany__spot (σ : gM) (v : Int32) : M_oneMany (M_spot_s σ v) = M_oneMany σ := rfl
theorem M_oneMany__here (σ : gM) (v : Int32) : M_oneMany (M_here_s σ v) = M_oneMany σ := rfl
theorem M_oneMany__token (σ : gM) (v : Int32) : M_oneMany (M_token_s σ v) = M_oneMany σ := rfl
theorem M_oneMany__value (σ : gM) (v : Int32) : M_oneMany (M_value_s σ v) = M_oneMany σ := rfl
theorem M_oneMany__weptBits (σ : gM) (v : Int32) : M_oneMany (M_weptBits_s σ v) = M_oneMany σ := rfl
theorem M_oneMany__weptTimes (σ : gM) (v : Int32) : M_oneMany (M_weptTimes_s σ v) = M_oneMany σ := rfl
theorem M_oneMany__firstNot (σ : gM) (v : Int32) : M_oneMany (M_firstNot_s σ v) = M_oneMany σ := rfl
theorem M_oneMany__seenMany (σ : gM) (v : Int32) : M_oneMany (M_seenMany_s σ v) = M_oneMany σ := rfl
theorem M_oneMany__torn (σ : gM) (v : Int32) : M_oneMany (M_torn_s σ v) = M_oneMany σ := rfl
theorem M_oneMany__state (σ : gM) (v : Nat → Int32) : M_oneMany (M_state_s σ v) = M_oneMany σ := rfl
theorem M_oneMany__brims (σ : gM) (v : Nat → Int32) : M_oneMany (M_brims_s σ v) = M_oneMany σ := rfl
theorem M_oneMany__readPage (σ : gM) (v : Nat → Int32) : M_oneMany (M_readPage_s σ v) = M_oneMany σ := rfl
theorem M_oneMany__tape (σ : gM) (v : Nat → Int32) : M_oneMany (M_tape_s σ v) = M_oneMany σ := rfl
theorem M_oneMany__cuts (σ : gM) (v : Nat → Int32) : M_oneMany (M_cuts_s σ v) = M_oneMany σ := rfl
theorem M_oneMany__letters (σ : gM) (v : Nat → Int32) : M_oneMany (M_letters_s σ v) = M_oneMany σ := rfl
theorem M_oneMany__seen (σ : gM) (v : Nat → Int32) : M_oneMany (M_seen_s σ v) = M_oneMany σ := rfl
theorem M_oneMany__goneBy (σ : gM) (v : Nat → Int32) : M_oneMany (M_goneBy_s σ v) = M_oneMany σ := rfl
theorem M_oneMany__isKept (σ : gM) (v : Nat → Int32) : M_oneMany (M_isKept_s σ v) = M_oneMany σ := rfl
theorem M_oneMany__lanes (σ : gM) (v : Nat → Int32) : M_oneMany (M_lanes_s σ v) = M_oneMany σ := rfl
theorem M_oneMany__lengths (σ : gM) (v : Nat → Int32) : M_oneMany (M_lengths_s σ v) = M_oneMany σ := rfl
theorem M_oneMany__cells (σ : gM) (v : Nat → Int32) : M_oneMany (M_cells_s σ v) = M_oneMany σ := rfl
theorem M_readOnes__oneMany (σ : gM) (v : Int32) : M_readOnes (M_oneMany_s σ v) = M_readOnes σ := rfl
theorem M_readOnes__readOnes (σ : gM) (v : Int32) : M_readOnes (M_readOnes_s σ v) = v := rfl
theorem M_readOnes__toldOnce (σ : gM) (v : Int32) : M_readOnes (M_toldOnce_s σ v) = M_readOnes σ := rfl
theorem M_readOnes__high (σ : gM) (v : Int32) : M_readOnes (M_high_s σ v) = M_readOnes σ := rfl
theorem M_readOnes__taped (σ : gM) (v : Int32) : M_readOnes (M_taped_s σ v) = M_readOnes σ := rfl
theorem M_readOnes__fault (σ : gM) (v : Int32) : M_readOnes (M_fault_s σ v) = M_readOnes σ := rfl
theorem M_readOnes__broken (σ : gM) (v : Int32) : M_readOnes (M_broken_s σ v) = M_readOnes σ := rfl
theorem M_readOnes__brokenAt (σ : gM) (v : Int32) : M_readOnes (M_brokenAt_s σ v) = M_readOnes σ := rfl
theorem M_readOnes__spot (σ : gM) (v : Int32) : M_readOnes (M_spot_s σ v) = M_readOnes σ := rfl
theorem M_readOnes__here (σ : gM) (v : Int32) : M_readOnes (M_here_s σ v) = M_readOnes σ := rfl
theorem M_readOnes__token (σ : gM) (v : Int32) : M_readOnes (M_token_s σ v) = M_readOnes σ := rfl
theorem M_readOnes__value (σ : gM) (v : Int32) : M_readOnes (M_value_s σ v) = M_readOnes σ := rfl
theorem M_readOnes__weptBits (σ : gM) (v : Int32) : M_readOnes (M_weptBits_s σ v) = M_readOnes σ := rfl
theorem M_readOnes__weptTimes (σ : gM) (v : Int32) : M_readOnes (M_weptTimes_s σ v) = M_readOnes σ := rfl
theorem M_readOnes__firstNot (σ : gM) (v : Int32) : M_readOnes (M_firstNot_s σ v) = M_readOnes σ := rfl
theorem M_readOnes__seenMany (σ : gM) (v : Int32) : M_readOnes (M_seenMany_s σ v) = M_readOnes σ := rfl
theorem M_readOnes__torn (σ : gM) (v : Int32) : M_readOnes (M_torn_s σ v) = M_readOnes σ := rfl
theorem M_readOnes__state (σ : gM) (v : Nat → Int32) : M_readOnes (M_state_s σ v) = M_readOnes σ := rfl
theorem M_readOnes__brims (σ : gM) (v : Nat → Int32) : M_readOnes (M_brims_s σ v) = M_readOnes σ := rfl
theorem M_readOnes__readPage (σ : gM) (v : Nat → Int32) : M_readOnes (M_readPage_s σ v) = M_readOnes σ := rfl
theorem M_readOnes__tape (σ : gM) (v : Nat → Int32) : M_readOnes (M_tape_s σ v) = M_readOnes σ := rfl
theorem M_readOnes__cuts (σ : gM) (v : Nat → Int32) : M_readOnes (M_cuts_s σ v) = M_readOnes σ := rfl
theorem M_readOnes__letters (σ : gM) (v : Nat → Int32) : M_readOnes (M_letters_s σ v) = M_readOnes σ := rfl
theorem M_readOnes__seen (σ : gM) (v : Nat → Int32) : M_readOnes (M_seen_s σ v) = M_readOnes σ := rfl
theorem M_readOnes__goneBy (σ : gM) (v : Nat → Int32) : M_readOnes (M_goneBy_s σ v) = M_readOnes σ := rfl
theorem M_readOnes__isKept (σ : gM) (v : Nat → Int32) : M_readOnes (M_isKept_s σ v) = M_readOnes σ := rfl
theorem M_readOnes__lanes (σ : gM) (v : Nat → Int32) : M_readOnes (M_lanes_s σ v) = M_readOnes σ := rfl
theorem M_readOnes__lengths (σ : gM) (v : Nat → Int32) : M_readOnes (M_lengths_s σ v) = M_readOnes σ := rfl
theorem M_readOnes__cells (σ : gM) (v : Nat → Int32) : M_readOnes (M_cells_s σ v) = M_readOnes σ := rfl
theorem M_toldOnce__oneMany (σ : gM) (v : Int32) : M_toldOnce (M_oneMany_s σ v) = M_toldOnce σ := rfl
theorem M_toldOnce__readOnes (σ : gM) (v : Int32) : M_toldOnce (M_readOnes_s σ v) = M_toldOnce σ := rfl
theorem M_toldOnce__toldOnce (σ : gM) (v : Int32) : M_toldOnce (M_toldOnce_s σ v) = v := rfl
theorem M_toldOnce__high (σ : gM) (v : Int32) : M_toldOnce (M_high_s σ v) = M_toldOnce σ := rfl
theorem M_toldOnce__taped (σ : gM) (v : Int32) : M_toldOnce (M_taped_s σ v) = M_toldOnce σ := rfl
theorem M_toldOnce__fault (σ : gM) (v : Int32) : M_toldOnce (M_fault_s σ v) = M_toldOnce σ := rfl
theorem M_toldOnce__broken (σ : gM) (v : Int32) : M_toldOnce (M_broken_s σ v) = M_toldOnce σ := rfl
theorem M_toldOnce__brokenAt (σ : gM) (v : Int32) : M_toldOnce (M_brokenAt_s σ v) = M_toldOnce σ := rfl
theorem M_toldOnce__spot (σ : gM) (v : Int32) : M_toldOnce (M_spot_s σ v) = M_toldOnce σ := rfl
theorem M_toldOnce__here (σ : gM) (v : Int32) : M_toldOnce (M_here_s σ v) = M_toldOnce σ := rfl
theorem M_toldOnce__token (σ : gM) (v : Int32) : M_toldOnce (M_token_s σ v) = M_toldOnce σ := rfl
theorem M_toldOnce__value (σ : gM) (v : Int32) : M_toldOnce (M_value_s σ v) = M_toldOnce σ := rfl
theorem M_toldOnce__weptBits (σ : gM) (v : Int32) : M_toldOnce (M_weptBits_s σ v) = M_toldOnce σ := rfl
theorem M_toldOnce__weptTimes (σ : gM) (v : Int32) : M_toldOnce (M_weptTimes_s σ v) = M_toldOnce σ := rfl
theorem M_toldOnce__firstNot (σ : gM) (v : Int32) : M_toldOnce (M_firstNot_s σ v) = M_toldOnce σ := rfl
theorem M_toldOnce__seenMany (σ : gM) (v : Int32) : M_toldOnce (M_seenMany_s σ v) = M_toldOnce σ := rfl
theorem M_toldOnce__torn (σ : gM) (v : Int32) : M_toldOnce (M_torn_s σ v) = M_toldOnce σ := rfl
theorem M_toldOnce__state (σ : gM) (v : Nat → Int32) : M_toldOnce (M_state_s σ v) = M_toldOnce σ := rfl
theorem M_toldOnce__brims (σ : gM) (v : Nat → Int32) : M_toldOnce (M_brims_s σ v) = M_toldOnce σ := rfl
theorem M_toldOnce__readPage (σ : gM) (v : Nat → Int32) : M_toldOnce (M_readPage_s σ v) = M_toldOnce σ := rfl
theorem M_toldOnce__tape (σ : gM) (v : Nat → Int32) : M_toldOnce (M_tape_s σ v) = M_toldOnce σ := rfl
theorem M_toldOnce__cuts (σ : gM) (v : Nat → Int32) : M_toldOnce (M_cuts_s σ v) = M_toldOnce σ := rfl
theorem M_toldOnce__letters (σ : gM) (v : Nat → Int32) : M_toldOnce (M_letters_s σ v) = M_toldOnce σ := rfl
theorem M_toldOnce__seen (σ : gM) (v : Nat → Int32) : M_toldOnce (M_seen_s σ v) = M_toldOnce σ := rfl
theorem M_toldOnce__goneBy (σ : gM) (v : Nat → Int32) : M_toldOnce (M_goneBy_s σ v) = M_toldOnce σ := rfl
theorem M_toldOnce__isKept (σ : gM) (v : Nat → Int32) : M_toldOnce (M_isKept_s σ v) = M_toldOnce σ := rfl
theorem M_toldOnce__lanes (σ : gM) (v : Nat → Int32) : M_toldOnce (M_lanes_s σ v) = M_toldOnce σ := rfl
theorem M_toldOnce__lengths (σ : gM) (v : Nat → Int32) : M_toldOnce (M_lengths_s σ v) = M_toldOnce σ := rfl
theorem M_toldOnce__cells (σ : gM) (v : Nat → Int32) : M_toldOnce (M_cells_s σ v) = M_toldOnce σ := rfl
theorem M_high__oneMany (σ : gM) (v : Int32) : M_high (M_oneMany_s σ v) = M_high σ := rfl
theorem M_high__readOnes (σ : gM) (v : Int32) : M_high (M_readOnes_s σ v) = M_high σ := rfl
theorem M_high__toldOnce (σ : gM) (v : Int32) : M_high (M_toldOnce_s σ v) = M_high σ := rfl
theorem M_high__high (σ : gM) (v : Int32) : M_high (M_high_s σ v) = v := rfl
theorem M_high__taped (σ : gM) (v : Int32) : M_high (M_taped_s σ v) = M_high σ := rfl
theorem M_high__fault (σ : gM) (v : Int32) : M_high (M_fault_s σ v) = M_high σ := rfl
theorem M_high__broken (σ : gM) (v : Int32) : M_high (M_broken_s σ v) = M_high σ := rfl
theorem M_high__brokenAt (σ : gM) (v : Int32) : M_high (M_brokenAt_s σ v) = M_high σ := rfl
theorem M_high__spot (σ : gM) (v : Int32) : M_high (M_spot_s σ v) = M_high σ := rfl
theorem M_high__here (σ : gM) (v : Int32) : M_high (M_here_s σ v) = M_high σ := rfl
theorem M_high__token (σ : gM) (v : Int32) : M_high (M_token_s σ v) = M_high σ := rfl
theorem M_high__value (σ : gM) (v : Int32) : M_high (M_value_s σ v) = M_high σ := rfl
theorem M_high__weptBits (σ : gM) (v : Int32) : M_high (M_weptBits_s σ v) = M_high σ := rfl
theorem M_high__weptTimes (σ : gM) (v : Int32) : M_high (M_weptTimes_s σ v) = M_high σ := rfl
theorem M_high__firstNot (σ : gM) (v : Int32) : M_high (M_firstNot_s σ v) = M_high σ := rfl
theorem M_high__seenMany (σ : gM) (v : Int32) : M_high (M_seenMany_s σ v) = M_high σ := rfl
theorem M_high__torn (σ : gM) (v : Int32) : M_high (M_torn_s σ v) = M_high σ := rfl
theorem M_high__state (σ : gM) (v : Nat → Int32) : M_high (M_state_s σ v) = M_high σ := rfl
theorem M_high__brims (σ : gM) (v : Nat → Int32) : M_high (M_brims_s σ v) = M_high σ := rfl
theorem M_high__readPage (σ : gM) (v : Nat → Int32) : M_high (M_readPage_s σ v) = M_high σ := rfl
theorem M_high__tape (σ : gM) (v : Nat → Int32) : M_high (M_tape_s σ v) = M_high σ := rfl
theorem M_high__cuts (σ : gM) (v : Nat → Int32) : M_high (M_cuts_s σ v) = M_high σ := rfl
theorem M_high__letters (σ : gM) (v : Nat → Int32) : M_high (M_letters_s σ v) = M_high σ := rfl
theorem M_high__seen (σ : gM) (v : Nat → Int32) : M_high (M_seen_s σ v) = M_high σ := rfl
theorem M_high__goneBy (σ : gM) (v : Nat → Int32) : M_high (M_goneBy_s σ v) = M_high σ := rfl
theorem M_high__isKept (σ : gM) (v : Nat → Int32) : M_high (M_isKept_s σ v) = M_high σ := rfl
theorem M_high__lanes (σ : gM) (v : Nat → Int32) : M_high (M_lanes_s σ v) = M_high σ := rfl
theorem M_high__lengths (σ : gM) (v : Nat → Int32) : M_high (M_lengths_s σ v) = M_high σ := rfl
theorem M_high__cells (σ : gM) (v : Nat → Int32) : M_high (M_cells_s σ v) = M_high σ := rfl
theorem M_taped__oneMany (σ : gM) (v : Int32) : M_taped (M_oneMany_s σ v) = M_taped σ := rfl
theorem M_taped__readOnes (σ : gM) (v : Int32) : M_taped (M_readOnes_s σ v) = M_taped σ := rfl
theorem M_taped__toldOnce (σ : gM) (v : Int32) : M_taped (M_toldOnce_s σ v) = M_taped σ := rfl
theorem M_taped__high (σ : gM) (v : Int32) : M_taped (M_high_s σ v) = M_taped σ := rfl
theorem M_taped__taped (σ : gM) (v : Int32) : M_taped (M_taped_s σ v) = v := rfl
theorem M_taped__fault (σ : gM) (v : Int32) : M_taped (M_fault_s σ v) = M_taped σ := rfl
theorem M_taped__broken (σ : gM) (v : Int32) : M_taped (M_broken_s σ v) = M_taped σ := rfl
theorem M_taped__brokenAt (σ : gM) (v : Int32) : M_taped (M_brokenAt_s σ v) = M_taped σ := rfl
theorem M_taped__spot (σ : gM) (v : Int32) : M_taped (M_spot_s σ v) = M_taped σ := rfl
theorem M_taped__here (σ : gM) (v : Int32) : M_taped (M_here_s σ v) = M_taped σ := rfl
theorem M_taped__token (σ : gM) (v : Int32) : M_taped (M_token_s σ v) = M_taped σ := rfl
theorem M_taped__value (σ : gM) (v : Int32) : M_taped (M_value_s σ v) = M_taped σ := rfl
theorem M_taped__weptBits (σ : gM) (v : Int32) : M_taped (M_weptBits_s σ v) = M_taped σ := rfl
theorem M_taped__weptTimes (σ : gM) (v : Int32) : M_taped (M_weptTimes_s σ v) = M_taped σ := rfl
theorem M_taped__firstNot (σ : gM) (v : Int32) : M_taped (M_firstNot_s σ v) = M_taped σ := rfl
theorem M_taped__seenMany (σ : gM) (v : Int32) : M_taped (M_seenMany_s σ v) = M_taped σ := rfl
theorem M_taped__torn (σ : gM) (v : Int32) : M_taped (M_torn_s σ v) = M_taped σ := rfl
theorem M_taped__state (σ : gM) (v : Nat → Int32) : M_taped (M_state_s σ v) = M_taped σ := rfl
theorem M_taped__brims (σ : gM) (v : Nat → Int32) : M_taped (M_brims_s σ v) = M_taped σ := rfl
theorem M_taped__readPage (σ : gM) (v : Nat → Int32) : M_taped (M_readPage_s σ v) = M_taped σ := rfl
theorem M_taped__tape (σ : gM) (v : Nat → Int32) : M_taped (M_tape_s σ v) = M_taped σ := rfl
theorem M_taped__cuts (σ : gM) (v : Nat → Int32) : M_taped (M_cuts_s σ v) = M_taped σ := rfl
theorem M_taped__letters (σ : gM) (v : Nat → Int32) : M_taped (M_letters_s σ v) = M_taped σ := rfl
theorem M_taped__seen (σ : gM) (v : Nat → Int32) : M_taped (M_seen_s σ v) = M_taped σ := rfl
theorem M_taped__goneBy (σ : gM) (v : Nat → Int32) : M_taped (M_goneBy_s σ v) = M_taped σ := rfl
theorem M_taped__isKept (σ : gM) (v : Nat → Int32) : M_taped (M_isKept_s σ v) = M_taped σ := rfl
theorem M_taped__lanes (σ : gM) (v : Nat → Int32) : M_taped (M_lanes_s σ v) = M_taped σ := rfl
theorem M_taped__lengths (σ : gM) (v : Nat → Int32) : M_taped (M_lengths_s σ v) = M_taped σ := rfl
theorem M_taped__cells (σ : gM) (v : Nat → Int32) : M_taped (M_cells_s σ v) = M_taped σ := rfl
theorem M_fault__oneMany (σ : gM) (v : Int32) : M_fault (M_oneMany_s σ v) = M_fault σ := rfl
theorem M_fault__readOnes (σ : gM) (v : Int32) : M_fault (M_readOnes_s σ v) = M_fault σ := rfl
theorem M_fault__toldOnce (σ : gM) (v : Int32) : M_fault (M_toldOnce_s σ v) = M_fault σ := rfl
theorem M_fault__high (σ : gM) (v : Int32) : M_fault (M_high_s σ v) = M_fault σ := rfl
theorem M_fault__taped (σ : gM) (v : Int32) : M_fault (M_taped_s σ v) = M_fault σ := rfl
theorem M_fault__fault (σ : gM) (v : Int32) : M_fault (M_fault_s σ v) = v := rfl
theorem M_fault__broken (σ : gM) (v : Int32) : M_fault (M_broken_s σ v) = M_fault σ := rfl
theorem M_fault__brokenAt (σ : gM) (v : Int32) : M_fault (M_brokenAt_s σ v) = M_fault σ := rfl
theorem M_fault__spot (σ : gM) (v : Int32) : M_fault (M_spot_s σ v) = M_fault σ := rfl
theorem M_fault__here (σ : gM) (v : Int32) : M_fault (M_here_s σ v) = M_fault σ := rfl
theorem M_fault__token (σ : gM) (v : Int32) : M_fault (M_token_s σ v) = M_fault σ := rfl
theorem M_fault__value (σ : gM) (v : Int32) : M_fault (M_value_s σ v) = M_fault σ := rfl
theorem M_fault__weptBits (σ : gM) (v : Int32) : M_fault (M_weptBits_s σ v) = M_fault σ := rfl
theorem M_fault__weptTimes (σ : gM) (v : Int32) : M_fault (M_weptTimes_s σ v) = M_fault σ := rfl
theorem M_fault__firstNot (σ : gM) (v : Int32) : M_fault (M_firstNot_s σ v) = M_fault σ := rfl
theorem M_fault__seenMany (σ : gM) (v : Int32) : M_fault (M_seenMany_s σ v) = M_fault σ := rfl
theorem M_fault__torn (σ : gM) (v : Int32) : M_fault (M_torn_s σ v) = M_fault σ := rfl
theorem M_fault__state (σ : gM) (v : Nat → Int32) : M_fault (M_state_s σ v) = M_fault σ := rfl
theorem M_fault__brims (σ : gM) (v : Nat → Int32) : M_fault (M_brims_s σ v) = M_fault σ := rfl
theorem M_fault__readPage (σ : gM) (v : Nat → Int32) : M_fault (M_readPage_s σ v) = M_fault σ := rfl
theorem M_fault__tape (σ : gM) (v : Nat → Int32) : M_fault (M_tape_s σ v) = M_fault σ := rfl
theorem M_fault__cuts (σ : gM) (v : Nat → Int32) : M_fault (M_cuts_s σ v) = M_fault σ := rfl
theorem M_fault__letters (σ : gM) (v : Nat → Int32) : M_fault (M_letters_s σ v) = M_fault σ := rfl
theorem M_fault__seen (σ : gM) (v : Nat → Int32) : M_fault (M_seen_s σ v) = M_fault σ := rfl
theorem M_fault__goneBy (σ : gM) (v : Nat → Int32) : M_fault (M_goneBy_s σ v) = M_fault σ := rfl
theorem M_fault__isKept (σ : gM) (v : Nat → Int32) : M_fault (M_isKept_s σ v) = M_fault σ := rfl
theorem M_fault__lanes (σ : gM) (v : Nat → Int32) : M_fault (M_lanes_s σ v) = M_fault σ := rfl
theorem M_fault__lengths (σ : gM) (v : Nat → Int32) : M_fault (M_lengths_s σ v) = M_fault σ := rfl
theorem M_fault__cells (σ : gM) (v : Nat → Int32) : M_fault (M_cells_s σ v) = M_fault σ := rfl
theorem M_broken__oneMany (σ : gM) (v : Int32) : M_broken (M_oneMany_s σ v) = M_broken σ := rfl
theorem M_broken__readOnes (σ : gM) (v : Int32) : M_broken (M_readOnes_s σ v) = M_broken σ := rfl
theorem M_broken__toldOnce (σ : gM) (v : Int32) : M_broken (M_toldOnce_s σ v) = M_broken σ := rfl
theorem M_broken__high (σ : gM) (v : Int32) : M_broken (M_high_s σ v) = M_broken σ := rfl
theorem M_broken__taped (σ : gM) (v : Int32) : M_broken (M_taped_s σ v) = M_broken σ := rfl
theorem M_broken__fault (σ : gM) (v : Int32) : M_broken (M_fault_s σ v) = M_broken σ := rfl
theorem M_broken__broken (σ : gM) (v : Int32) : M_broken (M_broken_s σ v) = v := rfl
theorem M_broken__brokenAt (σ : gM) (v : Int32) : M_broken (M_brokenAt_s σ v) = M_broken σ := rfl
theorem M_broken__spot (σ : gM) (v : Int32) : M_broken (M_spot_s σ v) = M_broken σ := rfl
theorem M_broken__here (σ : gM) (v : Int32) : M_broken (M_here_s σ v) = M_broken σ := rfl
theorem M_broken__token (σ : gM) (v : Int32) : M_broken (M_token_s σ v) = M_broken σ := rfl
theorem M_broken__value (σ : gM) (v : Int32) : M_broken (M_value_s σ v) = M_broken σ := rfl
theorem M_broken__weptBits (σ : gM) (v : Int32) : M_broken (M_weptBits_s σ v) = M_broken σ := rfl
theorem M_broken__weptTimes (σ : gM) (v : Int32) : M_broken (M_weptTimes_s σ v) = M_broken σ := rfl
theorem M_broken__firstNot (σ : gM) (v : Int32) : M_broken (M_firstNot_s σ v) = M_broken σ := rfl
theorem M_broken__seenMany (σ : gM) (v : Int32) : M_broken (M_seenMany_s σ v) = M_broken σ := rfl
theorem M_broken__torn (σ : gM) (v : Int32) : M_broken (M_torn_s σ v) = M_broken σ := rfl
theorem M_broken__state (σ : gM) (v : Nat → Int32) : M_broken (M_state_s σ v) = M_broken σ := rfl
theorem M_broken__brims (σ : gM) (v : Nat → Int32) : M_broken (M_brims_s σ v) = M_broken σ := rfl
theorem M_broken__readPage (σ : gM) (v : Nat → Int32) : M_broken (M_readPage_s σ v) = M_broken σ := rfl
theorem M_broken__tape (σ : gM) (v : Nat → Int32) : M_broken (M_tape_s σ v) = M_broken σ := rfl
theorem M_broken__cuts (σ : gM) (v : Nat → Int32) : M_broken (M_cuts_s σ v) = M_broken σ := rfl
theorem M_broken__letters (σ : gM) (v : Nat → Int32) : M_broken (M_letters_s σ v) = M_broken σ := rfl
theorem M_broken__seen (σ : gM) (v : Nat → Int32) : M_broken (M_seen_s σ v) = M_broken σ := rfl
theorem M_broken__goneBy (σ : gM) (v : Nat → Int32) : M_broken (M_goneBy_s σ v) = M_broken σ := rfl
theorem M_broken__isKept (σ : gM) (v : Nat → Int32) : M_broken (M_isKept_s σ v) = M_broken σ := rfl
theorem M_broken__lanes (σ : gM) (v : Nat → Int32) : M_broken (M_lanes_s σ v) = M_broken σ := rfl
theorem M_broken__lengths (σ : gM) (v : Nat → Int32) : M_broken (M_lengths_s σ v) = M_broken σ := rfl
theorem M_broken__cells (σ : gM) (v : Nat → Int32) : M_broken (M_cells_s σ v) = M_broken σ := rfl
theorem M_brokenAt__oneMany (σ : gM) (v : Int32) : M_brokenAt (M_oneMany_s σ v) = M_brokenAt σ := rfl
theorem M_brokenAt__readOnes (σ : gM) (v : Int32) : M_brokenAt (M_readOnes_s σ v) = M_brokenAt σ := rfl
theorem M_brokenAt__toldOnce (σ : gM) (v : Int32) : M_brokenAt (M_toldOnce_s σ v) = M_brokenAt σ := rfl
theorem M_brokenAt__high (σ : gM) (v : Int32) : M_brokenAt (M_high_s σ v) = M_brokenAt σ := rfl
theorem M_brokenAt__taped (σ : gM) (v : Int32) : M_brokenAt (M_taped_s σ v) = M_brokenAt σ := rfl
theorem M_brokenAt__fault (σ : gM) (v : Int32) : M_brokenAt (M_fault_s σ v) = M_brokenAt σ := rfl
theorem M_brokenAt__broken (σ : gM) (v : Int32) : M_brokenAt (M_broken_s σ v) = M_brokenAt σ := rfl
theorem M_brokenAt__brokenAt (σ : gM) (v : Int32) : M_brokenAt (M_brokenAt_s σ v) = v := rfl
theorem M_brokenAt__spot (σ : gM) (v : Int32) : M_brokenAt (M_spot_s σ v) = M_brokenAt σ := rfl
theorem M_brokenAt__here (σ : gM) (v : Int32) : M_brokenAt (M_here_s σ v) = M_brokenAt σ := rfl
theorem M_brokenAt__token (σ : gM) (v : Int32) : M_brokenAt (M_token_s σ v) = M_brokenAt σ := rfl
theorem M_brokenAt__value (σ : gM) (v : Int32) : M_brokenAt (M_value_s σ v) = M_brokenAt σ := rfl
theorem M_brokenAt__weptBits (σ : gM) (v : Int32) : M_brokenAt (M_weptBits_s σ v) = M_brokenAt σ := rfl
theorem M_brokenAt__weptTimes (σ : gM) (v : Int32) : M_brokenAt (M_weptTimes_s σ v) = M_brokenAt σ := rfl
theorem M_brokenAt__firstNot (σ : gM) (v : Int32) : M_brokenAt (M_firstNot_s σ v) = M_brokenAt σ := rfl
theorem M_brokenAt__seenMany (σ : gM) (v : Int32) : M_brokenAt (M_seenMany_s σ v) = M_brokenAt σ := rfl
theorem M_brokenAt__torn (σ : gM) (v : Int32) : M_brokenAt (M_torn_s σ v) = M_brokenAt σ := rfl
theorem M_brokenAt__state (σ : gM) (v : Nat → Int32) : M_brokenAt (M_state_s σ v) = M_brokenAt σ := rfl
theorem M_brokenAt__brims (σ : gM) (v : Nat → Int32) : M_brokenAt (M_brims_s σ v) = M_brokenAt σ := rfl
theorem M_brokenAt__readPage (σ : gM) (v : Nat → Int32) : M_brokenAt (M_readPage_s σ v) = M_brokenAt σ := rfl
theorem M_brokenAt__tape (σ : gM) (v : Nat → Int32) : M_brokenAt (M_tape_s σ v) = M_brokenAt σ := rfl
theorem M_brokenAt__cuts (σ : gM) (v : Nat → Int32) : M_brokenAt (M_cuts_s σ v) = M_brokenAt σ := rfl
theorem M_brokenAt__letters (σ : gM) (v : Nat → Int32) : M_brokenAt (M_letters_s σ v) = M_brokenAt σ := rfl
theorem M_brokenAt__seen (σ : gM) (v : Nat → Int32) : M_brokenAt (M_seen_s σ v) = M_brokenAt σ := rfl
theorem M_brokenAt__goneBy (σ : gM) (v : Nat → Int32) : M_brokenAt (M_goneBy_s σ v) = M_brokenAt σ := rfl
theorem M_brokenAt__isKept (σ : gM) (v : Nat → Int32) : M_brokenAt (M_isKept_s σ v) = M_brokenAt σ := rfl
theorem M_brokenAt__lanes (σ : gM) (v : Nat → Int32) : M_brokenAt (M_lanes_s σ v) = M_brokenAt σ := rfl
theorem M_brokenAt__lengths (σ : gM) (v : Nat → Int32) : M_brokenAt (M_lengths_s σ v) = M_brokenAt σ := rfl
theorem M_brokenAt__cells (σ : gM) (v : Nat → Int32) : M_brokenAt (M_cells_s σ v) = M_brokenAt σ := rfl
theorem M_spot__oneMany (σ : gM) (v : Int32) : M_spot (M_oneMany_s σ v) = M_spot σ := rfl
theorem M_spot__readOnes (σ : gM) (v : Int32) : M_spot (M_readOnes_s σ v) = M_spot σ := rfl
theorem M_spot__toldOnce (σ : gM) (v : Int32) : M_spot (M_toldOnce_s σ v) = M_spot σ := rfl
theorem M_spot__high (σ : gM) (v : Int32) : M_spot (M_high_s σ v) = M_spot σ := rfl
theorem M_spot__taped (σ : gM) (v : Int32) : M_spot (M_taped_s σ v) = M_spot σ := rfl
theorem M_spot__fault (σ : gM) (v : Int32) : M_spot (M_fault_s σ v) = M_spot σ := rfl
theorem M_spot__broken (σ : gM) (v : Int32) : M_spot (M_broken_s σ v) = M_spot σ := rfl
theorem M_spot__brokenAt (σ : gM) (v : Int32) : M_spot (M_brokenAt_s σ v) = M_spot σ := rfl
theorem M_spot__spot (σ : gM) (v : Int32) : M_spot (M_spot_s σ v) = v := rfl
theorem M_spot__here (σ : gM) (v : Int32) : M_spot (M_here_s σ v) = M_spot σ := rfl
theorem M_spot__token (σ : gM) (v : Int32) : M_spot (M_token_s σ v) = M_spot σ := rfl
theorem M_spot__value (σ : gM) (v : Int32) : M_spot (M_value_s σ v) = M_spot σ := rfl
theorem M_spot__weptBits (σ : gM) (v : Int32) : M_spot (M_weptBits_s σ v) = M_spot σ := rfl
theorem M_spot__weptTimes (σ : gM) (v : Int32) : M_spot (M_weptTimes_s σ v) = M_spot σ := rfl
theorem M_spot__firstNot (σ : gM) (v : Int32) : M_spot (M_firstNot_s σ v) = M_spot σ := rfl
theorem M_spot__seenMany (σ : gM) (v : Int32) : M_spot (M_seenMany_s σ v) = M_spot σ := rfl
theorem M_spot__torn (σ : gM) (v : Int32) : M_spot (M_torn_s σ v) = M_spot σ := rfl
theorem M_spot__state (σ : gM) (v : Nat → Int32) : M_spot (M_state_s σ v) = M_spot σ := rfl
theorem M_spot__brims (σ : gM) (v : Nat → Int32) : M_spot (M_brims_s σ v) = M_spot σ := rfl
theorem M_spot__readPage (σ : gM) (v : Nat → Int32) : M_spot (M_readPage_s σ v) = M_spot σ := rfl
theorem M_spot__tape (σ : gM) (v : Nat → Int32) : M_spot (M_tape_s σ v) = M_spot σ := rfl
theorem M_spot__cuts (σ : gM) (v : Nat → Int32) : M_spot (M_cuts_s σ v) = M_spot σ := rfl
theorem M_spot__letters (σ : gM) (v : Nat → Int32) : M_spot (M_letters_s σ v) = M_spot σ := rfl
theorem M_spot__seen (σ : gM) (v : Nat → Int32) : M_spot (M_seen_s σ v) = M_spot σ := rfl
theorem M_spot__goneBy (σ : gM) (v : Nat → Int32) : M_spot (M_goneBy_s σ v) = M_spot σ := rfl
theorem M_spot__isKept (σ : gM) (v : Nat → Int32) : M_spot (M_isKept_s σ v) = M_spot σ := rfl
theorem M_spot__lanes (σ : gM) (v : Nat → Int32) : M_spot (M_lanes_s σ v) = M_spot σ := rfl
theorem M_spot__lengths (σ : gM) (v : Nat → Int32) : M_spot (M_lengths_s σ v) = M_spot σ := rfl
theorem M_spot__cells (σ : gM) (v : Nat → Int32) : M_spot (M_cells_s σ v) = M_spot σ := rfl
theorem M_here__oneMany (σ : gM) (v : Int32) : M_here (M_oneMany_s σ v) = M_here σ := rfl
theorem M_here__readOnes (σ : gM) (v : Int32) : M_here (M_readOnes_s σ v) = M_here σ := rfl
theorem M_here__toldOnce (σ : gM) (v : Int32) : M_here (M_toldOnce_s σ v) = M_here σ := rfl
theorem M_here__high (σ : gM) (v : Int32) : M_here (M_high_s σ v) = M_here σ := rfl
theorem M_here__taped (σ : gM) (v : Int32) : M_here (M_taped_s σ v) = M_here σ := rfl
theorem M_here__fault (σ : gM) (v : Int32) : M_here (M_fault_s σ v) = M_here σ := rfl
theorem M_here__broken (σ : gM) (v : Int32) : M_here (M_broken_s σ v) = M_here σ := rfl
theorem M_here__brokenAt (σ : gM) (v : Int32) : M_here (M_brokenAt_s σ v) = M_here σ := rfl
theorem M_here__spot (σ : gM) (v : Int32) : M_here (M_spot_s σ v) = M_here σ := rfl
theorem M_here__here (σ : gM) (v : Int32) : M_here (M_here_s σ v) = v := rfl
theorem M_here__token (σ : gM) (v : Int32) : M_here (M_token_s σ v) = M_here σ := rfl
theorem M_here__value (σ : gM) (v : Int32) : M_here (M_value_s σ v) = M_here σ := rfl
theorem M_here__weptBits (σ : gM) (v : Int32) : M_here (M_weptBits_s σ v) = M_here σ := rfl
theorem M_here__weptTimes (σ : gM) (v : Int32) : M_here (M_weptTimes_s σ v) = M_here σ := rfl
theorem M_here__firstNot (σ : gM) (v : Int32) : M_here (M_firstNot_s σ v) = M_here σ := rfl
theorem M_here__seenMany (σ : gM) (v : Int32) : M_here (M_seenMany_s σ v) = M_here σ := rfl
theorem M_here__torn (σ : gM) (v : Int32) : M_here (M_torn_s σ v) = M_here σ := rfl
theorem M_here__state (σ : gM) (v : Nat → Int32) : M_here (M_state_s σ v) = M_here σ := rfl
theorem M_here__brims (σ : gM) (v : Nat → Int32) : M_here (M_brims_s σ v) = M_here σ := rfl
theorem M_here__readPage (σ : gM) (v : Nat → Int32) : M_here (M_readPage_s σ v) = M_here σ := rfl
theorem M_here__tape (σ : gM) (v : Nat → Int32) : M_here (M_tape_s σ v) = M_here σ := rfl
theorem M_here__cuts (σ : gM) (v : Nat → Int32) : M_here (M_cuts_s σ v) = M_here σ := rfl
theorem M_here__letters (σ : gM) (v : Nat → Int32) : M_here (M_letters_s σ v) = M_here σ := rfl
theorem M_here__seen (σ : gM) (v : Nat → Int32) : M_here (M_seen_s σ v) = M_here σ := rfl
theorem M_here__goneBy (σ : gM) (v : Nat → Int32) : M_here (M_goneBy_s σ v) = M_here σ := rfl
theorem M_here__isKept (σ : gM) (v : Nat → Int32) : M_here (M_isKept_s σ v) = M_here σ := rfl
theorem M_here__lanes (σ : gM) (v : Nat → Int32) : M_here (M_lanes_s σ v) = M_here σ := rfl
theorem M_here__lengths (σ : gM) (v : Nat → Int32) : M_here (M_lengths_s σ v) = M_here σ := rfl
theorem M_here__cells (σ : gM) (v : Nat → Int32) : M_here (M_cells_s σ v) = M_here σ := rfl
theorem M_token__oneMany (σ : gM) (v : Int32) : M_token (M_oneMany_s σ v) = M_token σ := rfl
theorem M_token__readOnes (σ : gM) (v : Int32) : M_token (M_readOnes_s σ v) = M_token σ := rfl
theorem M_token__toldOnce (σ : gM) (v : Int32) : M_token (M_toldOnce_s σ v) = M_token σ := rfl
theorem M_token__high (σ : gM) (v : Int32) : M_token (M_high_s σ v) = M_token σ := rfl
theorem M_token__taped (σ : gM) (v : Int32) : M_token (M_taped_s σ v) = M_token σ := rfl
theorem M_token__fault (σ : gM) (v : Int32) : M_token (M_fault_s σ v) = M_token σ := rfl
theorem M_token__broken (σ : gM) (v : Int32) : M_token (M_broken_s σ v) = M_token σ := rfl
theorem M_token__brokenAt (σ : gM) (v : Int32) : M_token (M_brokenAt_s σ v) = M_token σ := rfl
theorem M_token__spot (σ : gM) (v : Int32) : M_token (M_spot_s σ v) = M_token σ := rfl
theorem M_token__here (σ : gM) (v : Int32) : M_token (M_here_s σ v) = M_token σ := rfl
theorem M_token__token (σ : gM) (v : Int32) : M_token (M_token_s σ v) = v := rfl
theorem M_token__value (σ : gM) (v : Int32) : M_token (M_value_s σ v) = M_token σ := rfl
theorem M_token__weptBits (σ : gM) (v : Int32) : M_token (M_weptBits_s σ v) = M_token σ := rfl
theorem M_token__weptTimes (σ : gM) (v : Int32) : M_token (M_weptTimes_s σ v) = M_token σ := rfl
theorem M_token__firstNot (σ : gM) (v : Int32) : M_token (M_firstNot_s σ v) = M_token σ := rfl
theorem M_token__seenMany (σ : gM) (v : Int32) : M_token (M_seenMany_s σ v) = M_token σ := rfl
theorem M_token__torn (σ : gM) (v : Int32) : M_token (M_torn_s σ v) = M_token σ := rfl
theorem M_token__state (σ : gM) (v : Nat → Int32) : M_token (M_state_s σ v) = M_token σ := rfl
theorem M_token__brims (σ : gM) (v : Nat → Int32) : M_token (M_brims_s σ v) = M_token σ := rfl
theorem M_token__readPage (σ : gM) (v : Nat → Int32) : M_token (M_readPage_s σ v) = M_token σ := rfl
theorem M_token__tape (σ : gM) (v : Nat → Int32) : M_token (M_tape_s σ v) = M_token σ := rfl
theorem M_token__cuts (σ : gM) (v : Nat → Int32) : M_token (M_cuts_s σ v) = M_token σ := rfl
theorem M_token__letters (σ : gM) (v : Nat → Int32) : M_token (M_letters_s σ v) = M_token σ := rfl
theorem M_token__seen (σ : gM) (v : Nat → Int32) : M_token (M_seen_s σ v) = M_token σ := rfl
theorem M_token__goneBy (σ : gM) (v : Nat → Int32) : M_token (M_goneBy_s σ v) = M_token σ := rfl
theorem M_token__isKept (σ : gM) (v : Nat → Int32) : M_token (M_isKept_s σ v) = M_token σ := rfl
theorem M_token__lanes (σ : gM) (v : Nat → Int32) : M_token (M_lanes_s σ v) = M_token σ := rfl
theorem M_token__lengths (σ : gM) (v : Nat → Int32) : M_token (M_lengths_s σ v) = M_token σ := rfl
theorem M_token__cells (σ : gM) (v : Nat → Int32) : M_token (M_cells_s σ v) = M_token σ := rfl
theorem M_value__oneMany (σ : gM) (v : Int32) : M_value (M_oneMany_s σ v) = M_value σ := rfl
theorem M_value__readOnes (σ : gM) (v : Int32) : M_value (M_readOnes_s σ v) = M_value σ := rfl
theorem M_value__toldOnce (σ : gM) (v : Int32) : M_value (M_toldOnce_s σ v) = M_value σ := rfl
theorem M_value__high (σ : gM) (v : Int32) : M_value (M_high_s σ v) = M_value σ := rfl
theorem M_value__taped (σ : gM) (v : Int32) : M_value (M_taped_s σ v) = M_value σ := rfl
theorem M_value__fault (σ : gM) (v : Int32) : M_value (M_fault_s σ v) = M_value σ := rfl
theorem M_value__broken (σ : gM) (v : Int32) : M_value (M_broken_s σ v) = M_value σ := rfl
theorem M_value__brokenAt (σ : gM) (v : Int32) : M_value (M_brokenAt_s σ v) = M_value σ := rfl
theorem M_value__spot (σ : gM) (v : Int32) : M_value (M_spot_s σ v) = M_value σ := rfl
theorem M_value__here (σ : gM) (v : Int32) : M_value (M_here_s σ v) = M_value σ := rfl
theorem M_value__token (σ : gM) (v : Int32) : M_value (M_token_s σ v) = M_value σ := rfl
theorem M_value__value (σ : gM) (v : Int32) : M_value (M_value_s σ v) = v := rfl
theorem M_value__weptBits (σ : gM) (v : Int32) : M_value (M_weptBits_s σ v) = M_value σ := rfl
theorem M_value__weptTimes (σ : gM) (v : Int32) : M_value (M_weptTimes_s σ v) = M_value σ := rfl
theorem M_value__firstNot (σ : gM) (v : Int32) : M_value (M_firstNot_s σ v) = M_value σ := rfl
theorem M_value__seenMany (σ : gM) (v : Int32) : M_value (M_seenMany_s σ v) = M_value σ := rfl
theorem M_value__torn (σ : gM) (v : Int32) : M_value (M_torn_s σ v) = M_value σ := rfl
theorem M_value__state (σ : gM) (v : Nat → Int32) : M_value (M_state_s σ v) = M_value σ := rfl
theorem M_value__brims (σ : gM) (v : Nat → Int32) : M_value (M_brims_s σ v) = M_value σ := rfl
theorem M_value__readPage (σ : gM) (v : Nat → Int32) : M_value (M_readPage_s σ v) = M_value σ := rfl
theorem M_value__tape (σ : gM) (v : Nat → Int32) : M_value (M_tape_s σ v) = M_value σ := rfl
theorem M_value__cuts (σ : gM) (v : Nat → Int32) : M_value (M_cuts_s σ v) = M_value σ := rfl
theorem M_value__letters (σ : gM) (v : Nat → Int32) : M_value (M_letters_s σ v) = M_value σ := rfl
theorem M_value__seen (σ : gM) (v : Nat → Int32) : M_value (M_seen_s σ v) = M_value σ := rfl
theorem M_value__goneBy (σ : gM) (v : Nat → Int32) : M_value (M_goneBy_s σ v) = M_value σ := rfl
theorem M_value__isKept (σ : gM) (v : Nat → Int32) : M_value (M_isKept_s σ v) = M_value σ := rfl
theorem M_value__lanes (σ : gM) (v : Nat → Int32) : M_value (M_lanes_s σ v) = M_value σ := rfl
theorem M_value__lengths (σ : gM) (v : Nat → Int32) : M_value (M_lengths_s σ v) = M_value σ := rfl
theorem M_value__cells (σ : gM) (v : Nat → Int32) : M_value (M_cells_s σ v) = M_value σ := rfl
theorem M_weptBits__oneMany (σ : gM) (v : Int32) : M_weptBits (M_oneMany_s σ v) = M_weptBits σ := rfl
theorem M_weptBits__readOnes (σ : gM) (v : Int32) : M_weptBits (M_readOnes_s σ v) = M_weptBits σ := rfl
theorem M_weptBits__toldOnce (σ : gM) (v : Int32) : M_weptBits (M_toldOnce_s σ v) = M_weptBits σ := rfl
theorem M_weptBits__high (σ : gM) (v : Int32) : M_weptBits (M_high_s σ v) = M_weptBits σ := rfl
theorem M_weptBits__taped (σ : gM) (v : Int32) : M_weptBits (M_taped_s σ v) = M_weptBits σ := rfl
theorem M_weptBits__fault (σ : gM) (v : Int32) : M_weptBits (M_fault_s σ v) = M_weptBits σ := rfl
theorem M_weptBits__broken (σ : gM) (v : Int32) : M_weptBits (M_broken_s σ v) = M_weptBits σ := rfl
theorem M_weptBits__brokenAt (σ : gM) (v : Int32) : M_weptBits (M_brokenAt_s σ v) = M_weptBits σ := rfl
theorem M_weptBits__spot (σ : gM) (v : Int32) : M_weptBits (M_spot_s σ v) = M_weptBits σ := rfl
theorem M_weptBits__here (σ : gM) (v : Int32) : M_weptBits (M_here_s σ v) = M_weptBits σ := rfl
theorem M_weptBits__token (σ : gM) (v : Int32) : M_weptBits (M_token_s σ v) = M_weptBits σ := rfl
theorem M_weptBits__value (σ : gM) (v : Int32) : M_weptBits (M_value_s σ v) = M_weptBits σ := rfl
theorem M_weptBits__weptBits (σ : gM) (v : Int32) : M_weptBits (M_weptBits_s σ v) = v := rfl
theorem M_weptBits__weptTimes (σ : gM) (v : Int32) : M_weptBits (M_weptTimes_s σ v) = M_weptBits σ := rfl
theorem M_weptBits__firstNot (σ : gM) (v : Int32) : M_weptBits (M_firstNot_s σ v) = M_weptBits σ := rfl
theorem M_weptBits__seenMany (σ : gM) (v : Int32) : M_weptBits (M_seenMany_s σ v) = M_weptBits σ := rfl
theorem M_weptBits__torn (σ : gM) (v : Int32) : M_weptBits (M_torn_s σ v) = M_weptBits σ := rfl
theorem M_weptBits__state (σ : gM) (v : Nat → Int32) : M_weptBits (M_state_s σ v) = M_weptBits σ := rfl
theorem M_weptBits__brims (σ : gM) (v : Nat → Int32) : M_weptBits (M_brims_s σ v) = M_weptBits σ := rfl
theorem M_weptBits__readPage (σ : gM) (v : Nat → Int32) : M_weptBits (M_readPage_s σ v) = M_weptBits σ := rfl
theorem M_weptBits__tape (σ : gM) (v : Nat → Int32) : M_weptBits (M_tape_s σ v) = M_weptBits σ := rfl
theorem M_weptBits__cuts (σ : gM) (v : Nat → Int32) : M_weptBits (M_cuts_s σ v) = M_weptBits σ := rfl
theorem M_weptBits__letters (σ : gM) (v : Nat → Int32) : M_weptBits (M_letters_s σ v) = M_weptBits σ := rfl
theorem M_weptBits__seen (σ : gM) (v : Nat → Int32) : M_weptBits (M_seen_s σ v) = M_weptBits σ := rfl
theorem M_weptBits__goneBy (σ : gM) (v : Nat → Int32) : M_weptBits (M_goneBy_s σ v) = M_weptBits σ := rfl
theorem M_weptBits__isKept (σ : gM) (v : Nat → Int32) : M_weptBits (M_isKept_s σ v) = M_weptBits σ := rfl
theorem M_weptBits__lanes (σ : gM) (v : Nat → Int32) : M_weptBits (M_lanes_s σ v) = M_weptBits σ := rfl
theorem M_weptBits__lengths (σ : gM) (v : Nat → Int32) : M_weptBits (M_lengths_s σ v) = M_weptBits σ := rfl
theorem M_weptBits__cells (σ : gM) (v : Nat → Int32) : M_weptBits (M_cells_s σ v) = M_weptBits σ := rfl
theorem M_weptTimes__oneMany (σ : gM) (v : Int32) : M_weptTimes (M_oneMany_s σ v) = M_weptTimes σ := rfl
theorem M_weptTimes__readOnes (σ : gM) (v : Int32) : M_weptTimes (M_readOnes_s σ v) = M_weptTimes σ := rfl
theorem M_weptTimes__toldOnce (σ : gM) (v : Int32) : M_weptTimes (M_toldOnce_s σ v) = M_weptTimes σ := rfl
theorem M_weptTimes__high (σ : gM) (v : Int32) : M_weptTimes (M_high_s σ v) = M_weptTimes σ := rfl
theorem M_weptTimes__taped (σ : gM) (v : Int32) : M_weptTimes (M_taped_s σ v) = M_weptTimes σ := rfl
theorem M_weptTimes__fault (σ : gM) (v : Int32) : M_weptTimes (M_fault_s σ v) = M_weptTimes σ := rfl
theorem M_weptTimes__broken (σ : gM) (v : Int32) : M_weptTimes (M_broken_s σ v) = M_weptTimes σ := rfl
theorem M_weptTimes__brokenAt (σ : gM) (v : Int32) : M_weptTimes (M_brokenAt_s σ v) = M_weptTimes σ := rfl
theorem M_weptTimes__spot (σ : gM) (v : Int32) : M_weptTimes (M_spot_s σ v) = M_weptTimes σ := rfl
theorem M_weptTimes__here (σ : gM) (v : Int32) : M_weptTimes (M_here_s σ v) = M_weptTimes σ := rfl
theorem M_weptTimes__token (σ : gM) (v : Int32) : M_weptTimes (M_token_s σ v) = M_weptTimes σ := rfl
theorem M_weptTimes__value (σ : gM) (v : Int32) : M_weptTimes (M_value_s σ v) = M_weptTimes σ := rfl
theorem M_weptTimes__weptBits (σ : gM) (v : Int32) : M_weptTimes (M_weptBits_s σ v) = M_weptTimes σ := rfl
theorem M_weptTimes__weptTimes (σ : gM) (v : Int32) : M_weptTimes (M_weptTimes_s σ v) = v := rfl
theorem M_weptTimes__firstNot (σ : gM) (v : Int32) : M_weptTimes (M_firstNot_s σ v) = M_weptTimes σ := rfl
theorem M_weptTimes__seenMany (σ : gM) (v : Int32) : M_weptTimes (M_seenMany_s σ v) = M_weptTimes σ := rfl
theorem M_weptTimes__torn (σ : gM) (v : Int32) : M_weptTimes (M_torn_s σ v) = M_weptTimes σ := rfl
theorem M_weptTimes__state (σ : gM) (v : Nat → Int32) : M_weptTimes (M_state_s σ v) = M_weptTimes σ := rfl
theorem M_weptTimes__brims (σ : gM) (v : Nat → Int32) : M_weptTimes (M_brims_s σ v) = M_weptTimes σ := rfl
theorem M_weptTimes__readPage (σ : gM) (v : Nat → Int32) : M_weptTimes (M_readPage_s σ v) = M_weptTimes σ := rfl
theorem M_weptTimes__tape (σ : gM) (v : Nat → Int32) : M_weptTimes (M_tape_s σ v) = M_weptTimes σ := rfl
theorem M_weptTimes__cuts (σ : gM) (v : Nat → Int32) : M_weptTimes (M_cuts_s σ v) = M_weptTimes σ := rfl
theorem M_weptTimes__letters (σ : gM) (v : Nat → Int32) : M_weptTimes (M_letters_s σ v) = M_weptTimes σ := rfl
theorem M_weptTimes__seen (σ : gM) (v : Nat → Int32) : M_weptTimes (M_seen_s σ v) = M_weptTimes σ := rfl
theorem M_weptTimes__goneBy (σ : gM) (v : Nat → Int32) : M_weptTimes (M_goneBy_s σ v) = M_weptTimes σ := rfl
theorem M_weptTimes__isKept (σ : gM) (v : Nat → Int32) : M_weptTimes (M_isKept_s σ v) = M_weptTimes σ := rfl
theorem M_weptTimes__lanes (σ : gM) (v : Nat → Int32) : M_weptTimes (M_lanes_s σ v) = M_weptTimes σ := rfl
theorem M_weptTimes__lengths (σ : gM) (v : Nat → Int32) : M_weptTimes (M_lengths_s σ v) = M_weptTimes σ := rfl
theorem M_weptTimes__cells (σ : gM) (v : Nat → Int32) : M_weptTimes (M_cells_s σ v) = M_weptTimes σ := rfl
theorem M_firstNot__oneMany (σ : gM) (v : Int32) : M_firstNot (M_oneMany_s σ v) = M_firstNot σ := rfl
theorem M_firstNot__readOnes (σ : gM) (v : Int32) : M_firstNot (M_readOnes_s σ v) = M_firstNot σ := rfl
theorem M_firstNot__toldOnce (σ : gM) (v : Int32) : M_firstNot (M_toldOnce_s σ v) = M_firstNot σ := rfl
theorem M_firstNot__high (σ : gM) (v : Int32) : M_firstNot (M_high_s σ v) = M_firstNot σ := rfl
theorem M_firstNot__taped (σ : gM) (v : Int32) : M_firstNot (M_taped_s σ v) = M_firstNot σ := rfl
theorem M_firstNot__fault (σ : gM) (v : Int32) : M_firstNot (M_fault_s σ v) = M_firstNot σ := rfl
theorem M_firstNot__broken (σ : gM) (v : Int32) : M_firstNot (M_broken_s σ v) = M_firstNot σ := rfl
theorem M_firstNot__brokenAt (σ : gM) (v : Int32) : M_firstNot (M_brokenAt_s σ v) = M_firstNot σ := rfl
theorem M_firstNot__spot (σ : gM) (v : Int32) : M_firstNot (M_spot_s σ v) = M_firstNot σ := rfl
theorem M_firstNot__here (σ : gM) (v : Int32) : M_firstNot (M_here_s σ v) = M_firstNot σ := rfl
theorem M_firstNot__token (σ : gM) (v : Int32) : M_firstNot (M_token_s σ v) = M_firstNot σ := rfl
theorem M_firstNot__value (σ : gM) (v : Int32) : M_firstNot (M_value_s σ v) = M_firstNot σ := rfl
theorem M_firstNot__weptBits (σ : gM) (v : Int32) : M_firstNot (M_weptBits_s σ v) = M_firstNot σ := rfl
theorem M_firstNot__weptTimes (σ : gM) (v : Int32) : M_firstNot (M_weptTimes_s σ v) = M_firstNot σ := rfl
theorem M_firstNot__firstNot (σ : gM) (v : Int32) : M_firstNot (M_firstNot_s σ v) = v := rfl
theorem M_firstNot__seenMany (σ : gM) (v : Int32) : M_firstNot (M_seenMany_s σ v) = M_firstNot σ := rfl
theorem M_firstNot__torn (σ : gM) (v : Int32) : M_firstNot (M_torn_s σ v) = M_firstNot σ := rfl
theorem M_firstNot__state (σ : gM) (v : Nat → Int32) : M_firstNot (M_state_s σ v) = M_firstNot σ := rfl
theorem M_firstNot__brims (σ : gM) (v : Nat → Int32) : M_firstNot (M_brims_s σ v) = M_firstNot σ := rfl
theorem M_firstNot__readPage (σ : gM) (v : Nat → Int32) : M_firstNot (M_readPage_s σ v) = M_firstNot σ := rfl
theorem M_firstNot__tape (σ : gM) (v : Nat → Int32) : M_firstNot (M_tape_s σ v) = M_firstNot σ := rfl
theorem M_firstNot__cuts (σ : gM) (v : Nat → Int32) : M_firstNot (M_cuts_s σ v) = M_firstNot σ := rfl
theorem M_firstNot__letters (σ : gM) (v : Nat → Int32) : M_firstNot (M_letters_s σ v) = M_firstNot σ := rfl
theorem M_firstNot__seen (σ : gM) (v : Nat → Int32) : M_firstNot (M_seen_s σ v) = M_firstNot σ := rfl
theorem M_firstNot__goneBy (σ : gM) (v : Nat → Int32) : M_firstNot (M_goneBy_s σ v) = M_firstNot σ := rfl
theorem M_firstNot__isKept (σ : gM) (v : Nat → Int32) : M_firstNot (M_isKept_s σ v) = M_firstNot σ := rfl
theorem M_firstNot__lanes (σ : gM) (v : Nat → Int32) : M_firstNot (M_lanes_s σ v) = M_firstNot σ := rfl
theorem M_firstNot__lengths (σ : gM) (v : Nat → Int32) : M_firstNot (M_lengths_s σ v) = M_firstNot σ := rfl
theorem M_firstNot__cells (σ : gM) (v : Nat → Int32) : M_firstNot (M_cells_s σ v) = M_firstNot σ := rfl
theorem M_seenMany__oneMany (σ : gM) (v : Int32) : M_seenMany (M_oneMany_s σ v) = M_seenMany σ := rfl
theorem M_seenMany__readOnes (σ : gM) (v : Int32) : M_seenMany (M_readOnes_s σ v) = M_seenMany σ := rfl
theorem M_seenMany__toldOnce (σ : gM) (v : Int32) : M_seenMany (M_toldOnce_s σ v) = M_seenMany σ := rfl
theorem M_seenMany__high (σ : gM) (v : Int32) : M_seenMany (M_high_s σ v) = M_seenMany σ := rfl
theorem M_seenMany__taped (σ : gM) (v : Int32) : M_seenMany (M_taped_s σ v) = M_seenMany σ := rfl
theorem M_seenMany__fault (σ : gM) (v : Int32) : M_seenMany (M_fault_s σ v) = M_seenMany σ := rfl
theorem M_seenMany__broken (σ : gM) (v : Int32) : M_seenMany (M_broken_s σ v) = M_seenMany σ := rfl
theorem M_seenMany__brokenAt (σ : gM) (v : Int32) : M_seenMany (M_brokenAt_s σ v) = M_seenMany σ := rfl
theorem M_seenMany__spot (σ : gM) (v : Int32) : M_seenMany (M_spot_s σ v) = M_seenMany σ := rfl
theorem M_seenMany__here (σ : gM) (v : Int32) : M_seenMany (M_here_s σ v) = M_seenMany σ := rfl
theorem M_seenMany__token (σ : gM) (v : Int32) : M_seenMany (M_token_s σ v) = M_seenMany σ := rfl
theorem M_seenMany__value (σ : gM) (v : Int32) : M_seenMany (M_value_s σ v) = M_seenMany σ := rfl
theorem M_seenMany__weptBits (σ : gM) (v : Int32) : M_seenMany (M_weptBits_s σ v) = M_seenMany σ := rfl
theorem M_seenMany__weptTimes (σ : gM) (v : Int32) : M_seenMany (M_weptTimes_s σ v) = M_seenMany σ := rfl
theorem M_seenMany__firstNot (σ : gM) (v : Int32) : M_seenMany (M_firstNot_s σ v) = M_seenMany σ := rfl
theorem M_seenMany__seenMany (σ : gM) (v : Int32) : M_seenMany (M_seenMany_s σ v) = v := rfl
theorem M_seenMany__torn (σ : gM) (v : Int32) : M_seenMany (M_torn_s σ v) = M_seenMany σ := rfl
theorem M_seenMany__state (σ : gM) (v : Nat → Int32) : M_seenMany (M_state_s σ v) = M_seenMany σ := rfl
theorem M_seenMany__brims (σ : gM) (v : Nat → Int32) : M_seenMany (M_brims_s σ v) = M_seenMany σ := rfl
theorem M_seenMany__readPage (σ : gM) (v : Nat → Int32) : M_seenMany (M_readPage_s σ v) = M_seenMany σ := rfl
theorem M_seenMany__tape (σ : gM) (v : Nat → Int32) : M_seenMany (M_tape_s σ v) = M_seenMany σ := rfl
theorem M_seenMany__cuts (σ : gM) (v : Nat → Int32) : M_seenMany (M_cuts_s σ v) = M_seenMany σ := rfl
theorem M_seenMany__letters (σ : gM) (v : Nat → Int32) : M_seenMany (M_letters_s σ v) = M_seenMany σ := rfl
theorem M_seenMany__seen (σ : gM) (v : Nat → Int32) : M_seenMany (M_seen_s σ v) = M_seenMany σ := rfl
theorem M_seenMany__goneBy (σ : gM) (v : Nat → Int32) : M_seenMany (M_goneBy_s σ v) = M_seenMany σ := rfl
theorem M_seenMany__isKept (σ : gM) (v : Nat → Int32) : M_seenMany (M_isKept_s σ v) = M_seenMany σ := rfl
theorem M_seenMany__lanes (σ : gM) (v : Nat → Int32) : M_seenMany (M_lanes_s σ v) = M_seenMany σ := rfl
theorem M_seenMany__lengths (σ : gM) (v : Nat → Int32) : M_seenMany (M_lengths_s σ v) = M_seenMany σ := rfl
theorem M_seenMany__cells (σ : gM) (v : Nat → Int32) : M_seenMany (M_cells_s σ v) = M_seenMany σ := rfl
theorem M_torn__oneMany (σ : gM) (v : Int32) : M_torn (M_oneMany_s σ v) = M_torn σ := rfl
theorem M_torn__readOnes (σ : gM) (v : Int32) : M_torn (M_readOnes_s σ v) = M_torn σ := rfl
theorem M_torn__toldOnce (σ : gM) (v : Int32) : M_torn (M_toldOnce_s σ v) = M_torn σ := rfl
theorem M_torn__high (σ : gM) (v : Int32) : M_torn (M_high_s σ v) = M_torn σ := rfl
theorem M_torn__taped (σ : gM) (v : Int32) : M_torn (M_taped_s σ v) = M_torn σ := rfl
theorem M_torn__fault (σ : gM) (v : Int32) : M_torn (M_fault_s σ v) = M_torn σ := rfl
theorem M_torn__broken (σ : gM) (v : Int32) : M_torn (M_broken_s σ v) = M_torn σ := rfl
theorem M_torn__brokenAt (σ : gM) (v : Int32) : M_torn (M_brokenAt_s σ v) = M_torn σ := rfl
theorem M_torn__spot (σ : gM) (v : Int32) : M_torn (M_spot_s σ v) = M_torn σ := rfl
theorem M_torn__here (σ : gM) (v : Int32) : M_torn (M_here_s σ v) = M_torn σ := rfl
theorem M_torn__token (σ : gM) (v : Int32) : M_torn (M_token_s σ v) = M_torn σ := rfl
theorem M_torn__value (σ : gM) (v : Int32) : M_torn (M_value_s σ v) = M_torn σ := rfl
theorem M_torn__weptBits (σ : gM) (v : Int32) : M_torn (M_weptBits_s σ v) = M_torn σ := rfl
theorem M_torn__weptTimes (σ : gM) (v : Int32) : M_torn (M_weptTimes_s σ v) = M_torn σ := rfl
theorem M_torn__firstNot (σ : gM) (v : Int32) : M_torn (M_firstNot_s σ v) = M_torn σ := rfl
theorem M_torn__seenMany (σ : gM) (v : Int32) : M_torn (M_seenMany_s σ v) = M_torn σ := rfl
theorem M_torn__torn (σ : gM) (v : Int32) : M_torn (M_torn_s σ v) = v := rfl
theorem M_torn__state (σ : gM) (v : Nat → Int32) : M_torn (M_state_s σ v) = M_torn σ := rfl
theorem M_torn__brims (σ : gM) (v : Nat → Int32) : M_torn (M_brims_s σ v) = M_torn σ := rfl
theorem M_torn__readPage (σ : gM) (v : Nat → Int32) : M_torn (M_readPage_s σ v) = M_torn σ := rfl
theorem M_torn__tape (σ : gM) (v : Nat → Int32) : M_torn (M_tape_s σ v) = M_torn σ := rfl
theorem M_torn__cuts (σ : gM) (v : Nat → Int32) : M_torn (M_cuts_s σ v) = M_torn σ := rfl
theorem M_torn__letters (σ : gM) (v : Nat → Int32) : M_torn (M_letters_s σ v) = M_torn σ := rfl
theorem M_torn__seen (σ : gM) (v : Nat → Int32) : M_torn (M_seen_s σ v) = M_torn σ := rfl
theorem M_torn__goneBy (σ : gM) (v : Nat → Int32) : M_torn (M_goneBy_s σ v) = M_torn σ := rfl
theorem M_torn__isKept (σ : gM) (v : Nat → Int32) : M_torn (M_isKept_s σ v) = M_torn σ := rfl
theorem M_torn__lanes (σ : gM) (v : Nat → Int32) : M_torn (M_lanes_s σ v) = M_torn σ := rfl
theorem M_torn__lengths (σ : gM) (v : Nat → Int32) : M_torn (M_lengths_s σ v) = M_torn σ := rfl
theorem M_torn__cells (σ : gM) (v : Nat → Int32) : M_torn (M_cells_s σ v) = M_torn σ := rfl
theorem M_state__oneMany (σ : gM) (v : Int32) : M_state (M_oneMany_s σ v) = M_state σ := rfl
theorem M_state__readOnes (σ : gM) (v : Int32) : M_state (M_readOnes_s σ v) = M_state σ := rfl
theorem M_state__toldOnce (σ : gM) (v : Int32) : M_state (M_toldOnce_s σ v) = M_state σ := rfl
theorem M_state__high (σ : gM) (v : Int32) : M_state (M_high_s σ v) = M_state σ := rfl
theorem M_state__taped (σ : gM) (v : Int32) : M_state (M_taped_s σ v) = M_state σ := rfl
theorem M_state__fault (σ : gM) (v : Int32) : M_state (M_fault_s σ v) = M_state σ := rfl
theorem M_state__broken (σ : gM) (v : Int32) : M_state (M_broken_s σ v) = M_state σ := rfl
theorem M_state__brokenAt (σ : gM) (v : Int32) : M_state (M_brokenAt_s σ v) = M_state σ := rfl
theorem M_state__spot (σ : gM) (v : Int32) : M_state (M_spot_s σ v) = M_state σ := rfl
theorem M_state__here (σ : gM) (v : Int32) : M_state (M_here_s σ v) = M_state σ := rfl
theorem M_state__token (σ : gM) (v : Int32) : M_state (M_token_s σ v) = M_state σ := rfl
theorem M_state__value (σ : gM) (v : Int32) : M_state (M_value_s σ v) = M_state σ := rfl
theorem M_state__weptBits (σ : gM) (v : Int32) : M_state (M_weptBits_s σ v) = M_state σ := rfl
theorem M_state__weptTimes (σ : gM) (v : Int32) : M_state (M_weptTimes_s σ v) = M_state σ := rfl
theorem M_state__firstNot (σ : gM) (v : Int32) : M_state (M_firstNot_s σ v) = M_state σ := rfl
theorem M_state__seenMany (σ : gM) (v : Int32) : M_state (M_seenMany_s σ v) = M_state σ := rfl
theorem M_state__torn (σ : gM) (v : Int32) : M_state (M_torn_s σ v) = M_state σ := rfl
theorem M_state__state (σ : gM) (v : Nat → Int32) : M_state (M_state_s σ v) = v := rfl
theorem M_state__brims (σ : gM) (v : Nat → Int32) : M_state (M_brims_s σ v) = M_state σ := rfl
theorem M_state__readPage (σ : gM) (v : Nat → Int32) : M_state (M_readPage_s σ v) = M_state σ := rfl
theorem M_state__tape (σ : gM) (v : Nat → Int32) : M_state (M_tape_s σ v) = M_state σ := rfl
theorem M_state__cuts (σ : gM) (v : Nat → Int32) : M_state (M_cuts_s σ v) = M_state σ := rfl
theorem M_state__letters (σ : gM) (v : Nat → Int32) : M_state (M_letters_s σ v) = M_state σ := rfl
theorem M_state__seen (σ : gM) (v : Nat → Int32) : M_state (M_seen_s σ v) = M_state σ := rfl
theorem M_state__goneBy (σ : gM) (v : Nat → Int32) : M_state (M_goneBy_s σ v) = M_state σ := rfl
theorem M_state__isKept (σ : gM) (v : Nat → Int32) : M_state (M_isKept_s σ v) = M_state σ := rfl
theorem M_state__lanes (σ : gM) (v : Nat → Int32) : M_state (M_lanes_s σ v) = M_state σ := rfl
theorem M_state__lengths (σ : gM) (v : Nat → Int32) : M_state (M_lengths_s σ v) = M_state σ := rfl
theorem M_state__cells (σ : gM) (v : Nat → Int32) : M_state (M_cells_s σ v) = M_state σ := rfl
theorem M_brims__oneMany (σ : gM) (v : Int32) : M_brims (M_oneMany_s σ v) = M_brims σ := rfl
theorem M_brims__readOnes (σ : gM) (v : Int32) : M_brims (M_readOnes_s σ v) = M_brims σ := rfl
theorem M_brims__toldOnce (σ : gM) (v : Int32) : M_brims (M_toldOnce_s σ v) = M_brims σ := rfl
theorem M_brims__high (σ : gM) (v : Int32) : M_brims (M_high_s σ v) = M_brims σ := rfl
theorem M_brims__taped (σ : gM) (v : Int32) : M_brims (M_taped_s σ v) = M_brims σ := rfl
theorem M_brims__fault (σ : gM) (v : Int32) : M_brims (M_fault_s σ v) = M_brims σ := rfl
theorem M_brims__broken (σ : gM) (v : Int32) : M_brims (M_broken_s σ v) = M_brims σ := rfl
theorem M_brims__brokenAt (σ : gM) (v : Int32) : M_brims (M_brokenAt_s σ v) = M_brims σ := rfl
theorem M_brims__spot (σ : gM) (v : Int32) : M_brims (M_spot_s σ v) = M_brims σ := rfl
theorem M_brims__here (σ : gM) (v : Int32) : M_brims (M_here_s σ v) = M_brims σ := rfl
theorem M_brims__token (σ : gM) (v : Int32) : M_brims (M_token_s σ v) = M_brims σ := rfl
theorem M_brims__value (σ : gM) (v : Int32) : M_brims (M_value_s σ v) = M_brims σ := rfl
theorem M_brims__weptBits (σ : gM) (v : Int32) : M_brims (M_weptBits_s σ v) = M_brims σ := rfl
theorem M_brims__weptTimes (σ : gM) (v : Int32) : M_brims (M_weptTimes_s σ v) = M_brims σ := rfl
theorem M_brims__firstNot (σ : gM) (v : Int32) : M_brims (M_firstNot_s σ v) = M_brims σ := rfl
theorem M_brims__seenMany (σ : gM) (v : Int32) : M_brims (M_seenMany_s σ v) = M_brims σ := rfl
theorem M_brims__torn (σ : gM) (v : Int32) : M_brims (M_torn_s σ v) = M_brims σ := rfl
theorem M_brims__state (σ : gM) (v : Nat → Int32) : M_brims (M_state_s σ v) = M_brims σ := rfl
theorem M_brims__brims (σ : gM) (v : Nat → Int32) : M_brims (M_brims_s σ v) = v := rfl
theorem M_brims__readPage (σ : gM) (v : Nat → Int32) : M_brims (M_readPage_s σ v) = M_brims σ := rfl
theorem M_brims__tape (σ : gM) (v : Nat → Int32) : M_brims (M_tape_s σ v) = M_brims σ := rfl
theorem M_brims__cuts (σ : gM) (v : Nat → Int32) : M_brims (M_cuts_s σ v) = M_brims σ := rfl
theorem M_brims__letters (σ : gM) (v : Nat → Int32) : M_brims (M_letters_s σ v) = M_brims σ := rfl
theorem M_brims__seen (σ : gM) (v : Nat → Int32) : M_brims (M_seen_s σ v) = M_brims σ := rfl
theorem M_brims__goneBy (σ : gM) (v : Nat → Int32) : M_brims (M_goneBy_s σ v) = M_brims σ := rfl
theorem M_brims__isKept (σ : gM) (v : Nat → Int32) : M_brims (M_isKept_s σ v) = M_brims σ := rfl
theorem M_brims__lanes (σ : gM) (v : Nat → Int32) : M_brims (M_lanes_s σ v) = M_brims σ := rfl
theorem M_brims__lengths (σ : gM) (v : Nat → Int32) : M_brims (M_lengths_s σ v) = M_brims σ := rfl
theorem M_brims__cells (σ : gM) (v : Nat → Int32) : M_brims (M_cells_s σ v) = M_brims σ := rfl
theorem M_readPage__oneMany (σ : gM) (v : Int32) : M_readPage (M_oneMany_s σ v) = M_readPage σ := rfl
theorem M_readPage__readOnes (σ : gM) (v : Int32) : M_readPage (M_readOnes_s σ v) = M_readPage σ := rfl
theorem M_readPage__toldOnce (σ : gM) (v : Int32) : M_readPage (M_toldOnce_s σ v) = M_readPage σ := rfl
theorem M_readPage__high (σ : gM) (v : Int32) : M_readPage (M_high_s σ v) = M_readPage σ := rfl
theorem M_readPage__taped (σ : gM) (v : Int32) : M_readPage (M_taped_s σ v) = M_readPage σ := rfl
theorem M_readPage__fault (σ : gM) (v : Int32) : M_readPage (M_fault_s σ v) = M_readPage σ := rfl
theorem M_readPage__broken (σ : gM) (v : Int32) : M_readPage (M_broken_s σ v) = M_readPage σ := rfl
theorem M_readPage__brokenAt (σ : gM) (v : Int32) : M_readPage (M_brokenAt_s σ v) = M_readPage σ := rfl
theorem M_readPage__spot (σ : gM) (v : Int32) : M_readPage (M_spot_s σ v) = M_readPage σ := rfl
theorem M_readPage__here (σ : gM) (v : Int32) : M_readPage (M_here_s σ v) = M_readPage σ := rfl
theorem M_readPage__token (σ : gM) (v : Int32) : M_readPage (M_token_s σ v) = M_readPage σ := rfl
theorem M_readPage__value (σ : gM) (v : Int32) : M_readPage (M_value_s σ v) = M_readPage σ := rfl
theorem M_readPage__weptBits (σ : gM) (v : Int32) : M_readPage (M_weptBits_s σ v) = M_readPage σ := rfl
theorem M_readPage__weptTimes (σ : gM) (v : Int32) : M_readPage (M_weptTimes_s σ v) = M_readPage σ := rfl
theorem M_readPage__firstNot (σ : gM) (v : Int32) : M_readPage (M_firstNot_s σ v) = M_readPage σ := rfl
theorem M_readPage__seenMany (σ : gM) (v : Int32) : M_readPage (M_seenMany_s σ v) = M_readPage σ := rfl
theorem M_readPage__torn (σ : gM) (v : Int32) : M_readPage (M_torn_s σ v) = M_readPage σ := rfl
theorem M_readPage__state (σ : gM) (v : Nat → Int32) : M_readPage (M_state_s σ v) = M_readPage σ := rfl
theorem M_readPage__brims (σ : gM) (v : Nat → Int32) : M_readPage (M_brims_s σ v) = M_readPage σ := rfl
theorem M_readPage__readPage (σ : gM) (v : Nat → Int32) : M_readPage (M_readPage_s σ v) = v := rfl
theorem M_readPage__tape (σ : gM) (v : Nat → Int32) : M_readPage (M_tape_s σ v) = M_readPage σ := rfl
theorem M_readPage__cuts (σ : gM) (v : Nat → Int32) : M_readPage (M_cuts_s σ v) = M_readPage σ := rfl
theorem M_readPage__letters (σ : gM) (v : Nat → Int32) : M_readPage (M_letters_s σ v) = M_readPage σ := rfl
theorem M_readPage__seen (σ : gM) (v : Nat → Int32) : M_readPage (M_seen_s σ v) = M_readPage σ := rfl
theorem M_readPage__goneBy (σ : gM) (v : Nat → Int32) : M_readPage (M_goneBy_s σ v) = M_readPage σ := rfl
theorem M_readPage__isKept (σ : gM) (v : Nat → Int32) : M_readPage (M_isKept_s σ v) = M_readPage σ := rfl
theorem M_readPage__lanes (σ : gM) (v : Nat → Int32) : M_readPage (M_lanes_s σ v) = M_readPage σ := rfl
theorem M_readPage__lengths (σ : gM) (v : Nat → Int32) : M_readPage (M_lengths_s σ v) = M_readPage σ := rfl
theorem M_readPage__cells (σ : gM) (v : Nat → Int32) : M_readPage (M_cells_s σ v) = M_readPage σ := rfl
theorem M_tape__oneMany (σ : gM) (v : Int32) : M_tape (M_oneMany_s σ v) = M_tape σ := rfl
theorem M_tape__readOnes (σ : gM) (v : Int32) : M_tape (M_readOnes_s σ v) = M_tape σ := rfl
theorem M_tape__toldOnce (σ : gM) (v : Int32) : M_tape (M_toldOnce_s σ v) = M_tape σ := rfl
theorem M_tape__high (σ : gM) (v : Int32) : M_tape (M_high_s σ v) = M_tape σ := rfl
theorem M_tape__taped (σ : gM) (v : Int32) : M_tape (M_taped_s σ v) = M_tape σ := rfl
theorem M_tape__fault (σ : gM) (v : Int32) : M_tape (M_fault_s σ v) = M_tape σ := rfl
theorem M_tape__broken (σ : gM) (v : Int32) : M_tape (M_broken_s σ v) = M_tape σ := rfl
theorem M_tape__brokenAt (σ : gM) (v : Int32) : M_tape (M_brokenAt_s σ v) = M_tape σ := rfl
theorem M_tape__spot (σ : gM) (v : Int32) : M_tape (M_spot_s σ v) = M_tape σ := rfl
theorem M_tape__here (σ : gM) (v : Int32) : M_tape (M_here_s σ v) = M_tape σ := rfl
theorem M_tape__token (σ : gM) (v : Int32) : M_tape (M_token_s σ v) = M_tape σ := rfl
theorem M_tape__value (σ : gM) (v : Int32) : M_tape (M_value_s σ v) = M_tape σ := rfl
theorem M_tape__weptBits (σ : gM) (v : Int32) : M_tape (M_weptBits_s σ v) = M_tape σ := rfl
theorem M_tape__weptTimes (σ : gM) (v : Int32) : M_tape (M_weptTimes_s σ v) = M_tape σ := rfl
theorem M_tape__firstNot (σ : gM) (v : Int32) : M_tape (M_firstNot_s σ v) = M_tape σ := rfl
theorem M_tape__seenMany (σ : gM) (v : Int32) : M_tape (M_seenMany_s σ v) = M_tape σ := rfl
theorem M_tape__torn (σ : gM) (v : Int32) : M_tape (M_torn_s σ v) = M_tape σ := rfl
theorem M_tape__state (σ : gM) (v : Nat → Int32) : M_tape (M_state_s σ v) = M_tape σ := rfl
theorem M_tape__brims (σ : gM) (v : Nat → Int32) : M_tape (M_brims_s σ v) = M_tape σ := rfl
theorem M_tape__readPage (σ : gM) (v : Nat → Int32) : M_tape (M_readPage_s σ v) = M_tape σ := rfl
theorem M_tape__tape (σ : gM) (v : Nat → Int32) : M_tape (M_tape_s σ v) = v := rfl
theorem M_tape__cuts (σ : gM) (v : Nat → Int32) : M_tape (M_cuts_s σ v) = M_tape σ := rfl
theorem M_tape__letters (σ : gM) (v : Nat → Int32) : M_tape (M_letters_s σ v) = M_tape σ := rfl
theorem M_tape__seen (σ : gM) (v : Nat → Int32) : M_tape (M_seen_s σ v) = M_tape σ := rfl
theorem M_tape__goneBy (σ : gM) (v : Nat → Int32) : M_tape (M_goneBy_s σ v) = M_tape σ := rfl
theorem M_tape__isKept (σ : gM) (v : Nat → Int32) : M_tape (M_isKept_s σ v) = M_tape σ := rfl
theorem M_tape__lanes (σ : gM) (v : Nat → Int32) : M_tape (M_lanes_s σ v) = M_tape σ := rfl
theorem M_tape__lengths (σ : gM) (v : Nat → Int32) : M_tape (M_lengths_s σ v) = M_tape σ := rfl
theorem M_tape__cells (σ : gM) (v : Nat → Int32) : M_tape (M_cells_s σ v) = M_tape σ := rfl
theorem M_cuts__oneMany (σ : gM) (v : Int32) : M_cuts (M_oneMany_s σ v) = M_cuts σ := rfl
theorem M_cuts__readOnes (σ : gM) (v : Int32) : M_cuts (M_readOnes_s σ v) = M_cuts σ := rfl
theorem M_cuts__toldOnce (σ : gM) (v : Int32) : M_cuts (M_toldOnce_s σ v) = M_cuts σ := rfl
theorem M_cuts__high (σ : gM) (v : Int32) : M_cuts (M_high_s σ v) = M_cuts σ := rfl
theorem M_cuts__taped (σ : gM) (v : Int32) : M_cuts (M_taped_s σ v) = M_cuts σ := rfl
theorem M_cuts__fault (σ : gM) (v : Int32) : M_cuts (M_fault_s σ v) = M_cuts σ := rfl
theorem M_cuts__broken (σ : gM) (v : Int32) : M_cuts (M_broken_s σ v) = M_cuts σ := rfl
theorem M_cuts__brokenAt (σ : gM) (v : Int32) : M_cuts (M_brokenAt_s σ v) = M_cuts σ := rfl
theorem M_cuts__spot (σ : gM) (v : Int32) : M_cuts (M_spot_s σ v) = M_cuts σ := rfl
theorem M_cuts__here (σ : gM) (v : Int32) : M_cuts (M_here_s σ v) = M_cuts σ := rfl
theorem M_cuts__token (σ : gM) (v : Int32) : M_cuts (M_token_s σ v) = M_cuts σ := rfl
theorem M_cuts__value (σ : gM) (v : Int32) : M_cuts (M_value_s σ v) = M_cuts σ := rfl
theorem M_cuts__weptBits (σ : gM) (v : Int32) : M_cuts (M_weptBits_s σ v) = M_cuts σ := rfl
theorem M_cuts__weptTimes (σ : gM) (v : Int32) : M_cuts (M_weptTimes_s σ v) = M_cuts σ := rfl
theorem M_cuts__firstNot (σ : gM) (v : Int32) : M_cuts (M_firstNot_s σ v) = M_cuts σ := rfl
theorem M_cuts__seenMany (σ : gM) (v : Int32) : M_cuts (M_seenMany_s σ v) = M_cuts σ := rfl
theorem M_cuts__torn (σ : gM) (v : Int32) : M_cuts (M_torn_s σ v) = M_cuts σ := rfl
theorem M_cuts__state (σ : gM) (v : Nat → Int32) : M_cuts (M_state_s σ v) = M_cuts σ := rfl
theorem M_cuts__brims (σ : gM) (v : Nat → Int32) : M_cuts (M_brims_s σ v) = M_cuts σ := rfl
theorem M_cuts__readPage (σ : gM) (v : Nat → Int32) : M_cuts (M_readPage_s σ v) = M_cuts σ := rfl
theorem M_cuts__tape (σ : gM) (v : Nat → Int32) : M_cuts (M_tape_s σ v) = M_cuts σ := rfl
theorem M_cuts__cuts (σ : gM) (v : Nat → Int32) : M_cuts (M_cuts_s σ v) = v := rfl
theorem M_cuts__letters (σ : gM) (v : Nat → Int32) : M_cuts (M_letters_s σ v) = M_cuts σ := rfl
theorem M_cuts__seen (σ : gM) (v : Nat → Int32) : M_cuts (M_seen_s σ v) = M_cuts σ := rfl
theorem M_cuts__goneBy (σ : gM) (v : Nat → Int32) : M_cuts (M_goneBy_s σ v) = M_cuts σ := rfl
theorem M_cuts__isKept (σ : gM) (v : Nat → Int32) : M_cuts (M_isKept_s σ v) = M_cuts σ := rfl
theorem M_cuts__lanes (σ : gM) (v : Nat → Int32) : M_cuts (M_lanes_s σ v) = M_cuts σ := rfl
theorem M_cuts__lengths (σ : gM) (v : Nat → Int32) : M_cuts (M_lengths_s σ v) = M_cuts σ := rfl
theorem M_cuts__cells (σ : gM) (v : Nat → Int32) : M_cuts (M_cells_s σ v) = M_cuts σ := rfl
theorem M_letters__oneMany (σ : gM) (v : Int32) : M_letters (M_oneMany_s σ v) = M_letters σ := rfl
theorem M_letters__readOnes (σ : gM) (v : Int32) : M_letters (M_readOnes_s σ v) = M_letters σ := rfl
theorem M_letters__toldOnce (σ : gM) (v : Int32) : M_letters (M_toldOnce_s σ v) = M_letters σ := rfl
theorem M_letters__high (σ : gM) (v : Int32) : M_letters (M_high_s σ v) = M_letters σ := rfl
theorem M_letters__taped (σ : gM) (v : Int32) : M_letters (M_taped_s σ v) = M_letters σ := rfl
theorem M_letters__fault (σ : gM) (v : Int32) : M_letters (M_fault_s σ v) = M_letters σ := rfl
theorem M_letters__broken (σ : gM) (v : Int32) : M_letters (M_broken_s σ v) = M_letters σ := rfl
theorem M_letters__brokenAt (σ : gM) (v : Int32) : M_letters (M_brokenAt_s σ v) = M_letters σ := rfl
theorem M_letters__spot (σ : gM) (v : Int32) : M_letters (M_spot_s σ v) = M_letters σ := rfl
theorem M_letters__here (σ : gM) (v : Int32) : M_letters (M_here_s σ v) = M_letters σ := rfl
theorem M_letters__token (σ : gM) (v : Int32) : M_letters (M_token_s σ v) = M_letters σ := rfl
theorem M_letters__value (σ : gM) (v : Int32) : M_letters (M_value_s σ v) = M_letters σ := rfl
theorem M_letters__weptBits (σ : gM) (v : Int32) : M_letters (M_weptBits_s σ v) = M_letters σ := rfl
theorem M_letters__weptTimes (σ : gM) (v : Int32) : M_letters (M_weptTimes_s σ v) = M_letters σ := rfl
theorem M_letters__firstNot (σ : gM) (v : Int32) : M_letters (M_firstNot_s σ v) = M_letters σ := rfl
theorem M_letters__seenMany (σ : gM) (v : Int32) : M_letters (M_seenMany_s σ v) = M_letters σ := rfl
theorem M_letters__torn (σ : gM) (v : Int32) : M_letters (M_torn_s σ v) = M_letters σ := rfl
theorem M_letters__state (σ : gM) (v : Nat → Int32) : M_letters (M_state_s σ v) = M_letters σ := rfl
theorem M_letters__brims (σ : gM) (v : Nat → Int32) : M_letters (M_brims_s σ v) = M_letters σ := rfl
theorem M_letters__readPage (σ : gM) (v : Nat → Int32) : M_letters (M_readPage_s σ v) = M_letters σ := rfl
theorem M_letters__tape (σ : gM) (v : Nat → Int32) : M_letters (M_tape_s σ v) = M_letters σ := rfl
theorem M_letters__cuts (σ : gM) (v : Nat → Int32) : M_letters (M_cuts_s σ v) = M_letters σ := rfl
theorem M_letters__letters (σ : gM) (v : Nat → Int32) : M_letters (M_letters_s σ v) = v := rfl
theorem M_letters__seen (σ : gM) (v : Nat → Int32) : M_letters (M_seen_s σ v) = M_letters σ := rfl
theorem M_letters__goneBy (σ : gM) (v : Nat → Int32) : M_letters (M_goneBy_s σ v) = M_letters σ := rfl
theorem M_letters__isKept (σ : gM) (v : Nat → Int32) : M_letters (M_isKept_s σ v) = M_letters σ := rfl
theorem M_letters__lanes (σ : gM) (v : Nat → Int32) : M_letters (M_lanes_s σ v) = M_letters σ := rfl
theorem M_letters__lengths (σ : gM) (v : Nat → Int32) : M_letters (M_lengths_s σ v) = M_letters σ := rfl
theorem M_letters__cells (σ : gM) (v : Nat → Int32) : M_letters (M_cells_s σ v) = M_letters σ := rfl
theorem M_seen__oneMany (σ : gM) (v : Int32) : M_seen (M_oneMany_s σ v) = M_seen σ := rfl
theorem M_seen__readOnes (σ : gM) (v : Int32) : M_seen (M_readOnes_s σ v) = M_seen σ := rfl
theorem M_seen__toldOnce (σ : gM) (v : Int32) : M_seen (M_toldOnce_s σ v) = M_seen σ := rfl
theorem M_seen__high (σ : gM) (v : Int32) : M_seen (M_high_s σ v) = M_seen σ := rfl
theorem M_seen__taped (σ : gM) (v : Int32) : M_seen (M_taped_s σ v) = M_seen σ := rfl
theorem M_seen__fault (σ : gM) (v : Int32) : M_seen (M_fault_s σ v) = M_seen σ := rfl
theorem M_seen__broken (σ : gM) (v : Int32) : M_seen (M_broken_s σ v) = M_seen σ := rfl
theorem M_seen__brokenAt (σ : gM) (v : Int32) : M_seen (M_brokenAt_s σ v) = M_seen σ := rfl
theorem M_seen__spot (σ : gM) (v : Int32) : M_seen (M_spot_s σ v) = M_seen σ := rfl
theorem M_seen__here (σ : gM) (v : Int32) : M_seen (M_here_s σ v) = M_seen σ := rfl
theorem M_seen__token (σ : gM) (v : Int32) : M_seen (M_token_s σ v) = M_seen σ := rfl
theorem M_seen__value (σ : gM) (v : Int32) : M_seen (M_value_s σ v) = M_seen σ := rfl
theorem M_seen__weptBits (σ : gM) (v : Int32) : M_seen (M_weptBits_s σ v) = M_seen σ := rfl
theorem M_seen__weptTimes (σ : gM) (v : Int32) : M_seen (M_weptTimes_s σ v) = M_seen σ := rfl
theorem M_seen__firstNot (σ : gM) (v : Int32) : M_seen (M_firstNot_s σ v) = M_seen σ := rfl
theorem M_seen__seenMany (σ : gM) (v : Int32) : M_seen (M_seenMany_s σ v) = M_seen σ := rfl
theorem M_seen__torn (σ : gM) (v : Int32) : M_seen (M_torn_s σ v) = M_seen σ := rfl
theorem M_seen__state (σ : gM) (v : Nat → Int32) : M_seen (M_state_s σ v) = M_seen σ := rfl
theorem M_seen__brims (σ : gM) (v : Nat → Int32) : M_seen (M_brims_s σ v) = M_seen σ := rfl
theorem M_seen__readPage (σ : gM) (v : Nat → Int32) : M_seen (M_readPage_s σ v) = M_seen σ := rfl
theorem M_seen__tape (σ : gM) (v : Nat → Int32) : M_seen (M_tape_s σ v) = M_seen σ := rfl
theorem M_seen__cuts (σ : gM) (v : Nat → Int32) : M_seen (M_cuts_s σ v) = M_seen σ := rfl
theorem M_seen__letters (σ : gM) (v : Nat → Int32) : M_seen (M_letters_s σ v) = M_seen σ := rfl
theorem M_seen__seen (σ : gM) (v : Nat → Int32) : M_seen (M_seen_s σ v) = v := rfl
theorem M_seen__goneBy (σ : gM) (v : Nat → Int32) : M_seen (M_goneBy_s σ v) = M_seen σ := rfl
theorem M_seen__isKept (σ : gM) (v : Nat → Int32) : M_seen (M_isKept_s σ v) = M_seen σ := rfl
theorem M_seen__lanes (σ : gM) (v : Nat → Int32) : M_seen (M_lanes_s σ v) = M_seen σ := rfl
theorem M_seen__lengths (σ : gM) (v : Nat → Int32) : M_seen (M_lengths_s σ v) = M_seen σ := rfl
theorem M_seen__cells (σ : gM) (v : Nat → Int32) : M_seen (M_cells_s σ v) = M_seen σ := rfl
theorem M_goneBy__oneMany (σ : gM) (v : Int32) : M_goneBy (M_oneMany_s σ v) = M_goneBy σ := rfl
theorem M_goneBy__readOnes (σ : gM) (v : Int32) : M_goneBy (M_readOnes_s σ v) = M_goneBy σ := rfl
theorem M_goneBy__toldOnce (σ : gM) (v : Int32) : M_goneBy (M_toldOnce_s σ v) = M_goneBy σ := rfl
theorem M_goneBy__high (σ : gM) (v : Int32) : M_goneBy (M_high_s σ v) = M_goneBy σ := rfl
theorem M_goneBy__taped (σ : gM) (v : Int32) : M_goneBy (M_taped_s σ v) = M_goneBy σ := rfl
theorem M_goneBy__fault (σ : gM) (v : Int32) : M_goneBy (M_fault_s σ v) = M_goneBy σ := rfl
theorem M_goneBy__broken (σ : gM) (v : Int32) : M_goneBy (M_broken_s σ v) = M_goneBy σ := rfl
theorem M_goneBy__brokenAt (σ : gM) (v : Int32) : M_goneBy (M_brokenAt_s σ v) = M_goneBy σ := rfl
theorem M_goneBy__spot (σ : gM) (v : Int32) : M_goneBy (M_spot_s σ v) = M_goneBy σ := rfl
theorem M_goneBy__here (σ : gM) (v : Int32) : M_goneBy (M_here_s σ v) = M_goneBy σ := rfl
theorem M_goneBy__token (σ : gM) (v : Int32) : M_goneBy (M_token_s σ v) = M_goneBy σ := rfl
theorem M_goneBy__value (σ : gM) (v : Int32) : M_goneBy (M_value_s σ v) = M_goneBy σ := rfl
theorem M_goneBy__weptBits (σ : gM) (v : Int32) : M_goneBy (M_weptBits_s σ v) = M_goneBy σ := rfl
theorem M_goneBy__weptTimes (σ : gM) (v : Int32) : M_goneBy (M_weptTimes_s σ v) = M_goneBy σ := rfl
theorem M_goneBy__firstNot (σ : gM) (v : Int32) : M_goneBy (M_firstNot_s σ v) = M_goneBy σ := rfl
theorem M_goneBy__seenMany (σ : gM) (v : Int32) : M_goneBy (M_seenMany_s σ v) = M_goneBy σ := rfl
theorem M_goneBy__torn (σ : gM) (v : Int32) : M_goneBy (M_torn_s σ v) = M_goneBy σ := rfl
theorem M_goneBy__state (σ : gM) (v : Nat → Int32) : M_goneBy (M_state_s σ v) = M_goneBy σ := rfl
theorem M_goneBy__brims (σ : gM) (v : Nat → Int32) : M_goneBy (M_brims_s σ v) = M_goneBy σ := rfl
theorem M_goneBy__readPage (σ : gM) (v : Nat → Int32) : M_goneBy (M_readPage_s σ v) = M_goneBy σ := rfl
theorem M_goneBy__tape (σ : gM) (v : Nat → Int32) : M_goneBy (M_tape_s σ v) = M_goneBy σ := rfl
theorem M_goneBy__cuts (σ : gM) (v : Nat → Int32) : M_goneBy (M_cuts_s σ v) = M_goneBy σ := rfl
theorem M_goneBy__letters (σ : gM) (v : Nat → Int32) : M_goneBy (M_letters_s σ v) = M_goneBy σ := rfl
theorem M_goneBy__seen (σ : gM) (v : Nat → Int32) : M_goneBy (M_seen_s σ v) = M_goneBy σ := rfl
theorem M_goneBy__goneBy (σ : gM) (v : Nat → Int32) : M_goneBy (M_goneBy_s σ v) = v := rfl
theorem M_goneBy__isKept (σ : gM) (v : Nat → Int32) : M_goneBy (M_isKept_s σ v) = M_goneBy σ := rfl
theorem M_goneBy__lanes (σ : gM) (v : Nat → Int32) : M_goneBy (M_lanes_s σ v) = M_goneBy σ := rfl
theorem M_goneBy__lengths (σ : gM) (v : Nat → Int32) : M_goneBy (M_lengths_s σ v) = M_goneBy σ := rfl
theorem M_goneBy__cells (σ : gM) (v : Nat → Int32) : M_goneBy (M_cells_s σ v) = M_goneBy σ := rfl
theorem M_isKept__oneMany (σ : gM) (v : Int32) : M_isKept (M_oneMany_s σ v) = M_isKept σ := rfl
theorem M_isKept__readOnes (σ : gM) (v : Int32) : M_isKept (M_readOnes_s σ v) = M_isKept σ := rfl
theorem M_isKept__toldOnce (σ : gM) (v : Int32) : M_isKept (M_toldOnce_s σ v) = M_isKept σ := rfl
theorem M_isKept__high (σ : gM) (v : Int32) : M_isKept (M_high_s σ v) = M_isKept σ := rfl
theorem M_isKept__taped (σ : gM) (v : Int32) : M_isKept (M_taped_s σ v) = M_isKept σ := rfl
theorem M_isKept__fault (σ : gM) (v : Int32) : M_isKept (M_fault_s σ v) = M_isKept σ := rfl
theorem M_isKept__broken (σ : gM) (v : Int32) : M_isKept (M_broken_s σ v) = M_isKept σ := rfl
theorem M_isKept__brokenAt (σ : gM) (v : Int32) : M_isKept (M_brokenAt_s σ v) = M_isKept σ := rfl
theorem M_isKept__spot (σ : gM) (v : Int32) : M_isKept (M_spot_s σ v) = M_isKept σ := rfl
theorem M_isKept__here (σ : gM) (v : Int32) : M_isKept (M_here_s σ v) = M_isKept σ := rfl
theorem M_isKept__token (σ : gM) (v : Int32) : M_isKept (M_token_s σ v) = M_isKept σ := rfl
theorem M_isKept__value (σ : gM) (v : Int32) : M_isKept (M_value_s σ v) = M_isKept σ := rfl
theorem M_isKept__weptBits (σ : gM) (v : Int32) : M_isKept (M_weptBits_s σ v) = M_isKept σ := rfl
theorem M_isKept__weptTimes (σ : gM) (v : Int32) : M_isKept (M_weptTimes_s σ v) = M_isKept σ := rfl
theorem M_isKept__firstNot (σ : gM) (v : Int32) : M_isKept (M_firstNot_s σ v) = M_isKept σ := rfl
theorem M_isKept__seenMany (σ : gM) (v : Int32) : M_isKept (M_seenMany_s σ v) = M_isKept σ := rfl
theorem M_isKept__torn (σ : gM) (v : Int32) : M_isKept (M_torn_s σ v) = M_isKept σ := rfl
theorem M_isKept__state (σ : gM) (v : Nat → Int32) : M_isKept (M_state_s σ v) = M_isKept σ := rfl
theorem M_isKept__brims (σ : gM) (v : Nat → Int32) : M_isKept (M_brims_s σ v) = M_isKept σ := rfl
theorem M_isKept__readPage (σ : gM) (v : Nat → Int32) : M_isKept (M_readPage_s σ v) = M_isKept σ := rfl
theorem M_isKept__tape (σ : gM) (v : Nat → Int32) : M_isKept (M_tape_s σ v) = M_isKept σ := rfl
theorem M_isKept__cuts (σ : gM) (v : Nat → Int32) : M_isKept (M_cuts_s σ v) = M_isKept σ := rfl
theorem M_isKept__letters (σ : gM) (v : Nat → Int32) : M_isKept (M_letters_s σ v) = M_isKept σ := rfl
theorem M_isKept__seen (σ : gM) (v : Nat → Int32) : M_isKept (M_seen_s σ v) = M_isKept σ := rfl
theorem M_isKept__goneBy (σ : gM) (v : Nat → Int32) : M_isKept (M_goneBy_s σ v) = M_isKept σ := rfl
theorem M_isKept__isKept (σ : gM) (v : Nat → Int32) : M_isKept (M_isKept_s σ v) = v := rfl
theorem M_isKept__lanes (σ : gM) (v : Nat → Int32) : M_isKept (M_lanes_s σ v) = M_isKept σ := rfl
theorem M_isKept__lengths (σ : gM) (v : Nat → Int32) : M_isKept (M_lengths_s σ v) = M_isKept σ := rfl
theorem M_isKept__cells (σ : gM) (v : Nat → Int32) : M_isKept (M_cells_s σ v) = M_isKept σ := rfl
theorem M_lanes__oneMany (σ : gM) (v : Int32) : M_lanes (M_oneMany_s σ v) = M_lanes σ := rfl
theorem M_lanes__readOnes (σ : gM) (v : Int32) : M_lanes (M_readOnes_s σ v) = M_lanes σ := rfl
theorem M_lanes__toldOnce (σ : gM) (v : Int32) : M_lanes (M_toldOnce_s σ v) = M_lanes σ := rfl
theorem M_lanes__high (σ : gM) (v : Int32) : M_lanes (M_high_s σ v) = M_lanes σ := rfl
theorem M_lanes__taped (σ : gM) (v : Int32) : M_lanes (M_taped_s σ v) = M_lanes σ := rfl
theorem M_lanes__fault (σ : gM) (v : Int32) : M_lanes (M_fault_s σ v) = M_lanes σ := rfl
theorem M_lanes__broken (σ : gM) (v : Int32) : M_lanes (M_broken_s σ v) = M_lanes σ := rfl
theorem M_lanes__brokenAt (σ : gM) (v : Int32) : M_lanes (M_brokenAt_s σ v) = M_lanes σ := rfl
theorem M_lanes__spot (σ : gM) (v : Int32) : M_lanes (M_spot_s σ v) = M_lanes σ := rfl
theorem M_lanes__here (σ : gM) (v : Int32) : M_lanes (M_here_s σ v) = M_lanes σ := rfl
theorem M_lanes__token (σ : gM) (v : Int32) : M_lanes (M_token_s σ v) = M_lanes σ := rfl
theorem M_lanes__value (σ : gM) (v : Int32) : M_lanes (M_value_s σ v) = M_lanes σ := rfl
theorem M_lanes__weptBits (σ : gM) (v : Int32) : M_lanes (M_weptBits_s σ v) = M_lanes σ := rfl
theorem M_lanes__weptTimes (σ : gM) (v : Int32) : M_lanes (M_weptTimes_s σ v) = M_lanes σ := rfl
theorem M_lanes__firstNot (σ : gM) (v : Int32) : M_lanes (M_firstNot_s σ v) = M_lanes σ := rfl
theorem M_lanes__seenMany (σ : gM) (v : Int32) : M_lanes (M_seenMany_s σ v) = M_lanes σ := rfl
theorem M_lanes__torn (σ : gM) (v : Int32) : M_lanes (M_torn_s σ v) = M_lanes σ := rfl
theorem M_lanes__state (σ : gM) (v : Nat → Int32) : M_lanes (M_state_s σ v) = M_lanes σ := rfl
theorem M_lanes__brims (σ : gM) (v : Nat → Int32) : M_lanes (M_brims_s σ v) = M_lanes σ := rfl
theorem M_lanes__readPage (σ : gM) (v : Nat → Int32) : M_lanes (M_readPage_s σ v) = M_lanes σ := rfl
theorem M_lanes__tape (σ : gM) (v : Nat → Int32) : M_lanes (M_tape_s σ v) = M_lanes σ := rfl
theorem M_lanes__cuts (σ : gM) (v : Nat → Int32) : M_lanes (M_cuts_s σ v) = M_lanes σ := rfl
theorem M_lanes__letters (σ : gM) (v : Nat → Int32) : M_lanes (M_letters_s σ v) = M_lanes σ := rfl
theorem M_lanes__seen (σ : gM) (v : Nat → Int32) : M_lanes (M_seen_s σ v) = M_lanes σ := rfl
theorem M_lanes__goneBy (σ : gM) (v : Nat → Int32) : M_lanes (M_goneBy_s σ v) = M_lanes σ := rfl
theorem M_lanes__isKept (σ : gM) (v : Nat → Int32) : M_lanes (M_isKept_s σ v) = M_lanes σ := rfl
theorem M_lanes__lanes (σ : gM) (v : Nat → Int32) : M_lanes (M_lanes_s σ v) = v := rfl
theorem M_lanes__lengths (σ : gM) (v : Nat → Int32) : M_lanes (M_lengths_s σ v) = M_lanes σ := rfl
theorem M_lanes__cells (σ : gM) (v : Nat → Int32) : M_lanes (M_cells_s σ v) = M_lanes σ := rfl
theorem M_lengths__oneMany (σ : gM) (v : Int32) : M_lengths (M_oneMany_s σ v) = M_lengths σ := rfl
theorem M_lengths__readOnes (σ : gM) (v : Int32) : M_lengths (M_readOnes_s σ v) = M_lengths σ := rfl
theorem M_lengths__toldOnce (σ : gM) (v : Int32) : M_lengths (M_toldOnce_s σ v) = M_lengths σ := rfl
theorem M_lengths__high (σ : gM) (v : Int32) : M_lengths (M_high_s σ v) = M_lengths σ := rfl
theorem M_lengths__taped (σ : gM) (v : Int32) : M_lengths (M_taped_s σ v) = M_lengths σ := rfl
theorem M_lengths__fault (σ : gM) (v : Int32) : M_lengths (M_fault_s σ v) = M_lengths σ := rfl
theorem M_lengths__broken (σ : gM) (v : Int32) : M_lengths (M_broken_s σ v) = M_lengths σ := rfl
theorem M_lengths__brokenAt (σ : gM) (v : Int32) : M_lengths (M_brokenAt_s σ v) = M_lengths σ := rfl
theorem M_lengths__spot (σ : gM) (v : Int32) : M_lengths (M_spot_s σ v) = M_lengths σ := rfl
theorem M_lengths__here (σ : gM) (v : Int32) : M_lengths (M_here_s σ v) = M_lengths σ := rfl
theorem M_lengths__token (σ : gM) (v : Int32) : M_lengths (M_token_s σ v) = M_lengths σ := rfl
theorem M_lengths__value (σ : gM) (v : Int32) : M_lengths (M_value_s σ v) = M_lengths σ := rfl
theorem M_lengths__weptBits (σ : gM) (v : Int32) : M_lengths (M_weptBits_s σ v) = M_lengths σ := rfl
theorem M_lengths__weptTimes (σ : gM) (v : Int32) : M_lengths (M_weptTimes_s σ v) = M_lengths σ := rfl
theorem M_lengths__firstNot (σ : gM) (v : Int32) : M_lengths (M_firstNot_s σ v) = M_lengths σ := rfl
theorem M_lengths__seenMany (σ : gM) (v : Int32) : M_lengths (M_seenMany_s σ v) = M_lengths σ := rfl
theorem M_lengths__torn (σ : gM) (v : Int32) : M_lengths (M_torn_s σ v) = M_lengths σ := rfl
theorem M_lengths__state (σ : gM) (v : Nat → Int32) : M_lengths (M_state_s σ v) = M_lengths σ := rfl
theorem M_lengths__brims (σ : gM) (v : Nat → Int32) : M_lengths (M_brims_s σ v) = M_lengths σ := rfl
theorem M_lengths__readPage (σ : gM) (v : Nat → Int32) : M_lengths (M_readPage_s σ v) = M_lengths σ := rfl
theorem M_lengths__tape (σ : gM) (v : Nat → Int32) : M_lengths (M_tape_s σ v) = M_lengths σ := rfl
theorem M_lengths__cuts (σ : gM) (v : Nat → Int32) : M_lengths (M_cuts_s σ v) = M_lengths σ := rfl
theorem M_lengths__letters (σ : gM) (v : Nat → Int32) : M_lengths (M_letters_s σ v) = M_lengths σ := rfl
theorem M_lengths__seen (σ : gM) (v : Nat → Int32) : M_lengths (M_seen_s σ v) = M_lengths σ := rfl
theorem M_lengths__goneBy (σ : gM) (v : Nat → Int32) : M_lengths (M_goneBy_s σ v) = M_lengths σ := rfl
theorem M_lengths__isKept (σ : gM) (v : Nat → Int32) : M_lengths (M_isKept_s σ v) = M_lengths σ := rfl
theorem M_lengths__lanes (σ : gM) (v : Nat → Int32) : M_lengths (M_lanes_s σ v) = M_lengths σ := rfl
theorem M_lengths__lengths (σ : gM) (v : Nat → Int32) : M_lengths (M_lengths_s σ v) = v := rfl
theorem M_lengths__cells (σ : gM) (v : Nat → Int32) : M_lengths (M_cells_s σ v) = M_lengths σ := rfl
theorem M_cells__oneMany (σ : gM) (v : Int32) : M_cells (M_oneMany_s σ v) = M_cells σ := rfl
theorem M_cells__readOnes (σ : gM) (v : Int32) : M_cells (M_readOnes_s σ v) = M_cells σ := rfl
theorem M_cells__toldOnce (σ : gM) (v : Int32) : M_cells (M_toldOnce_s σ v) = M_cells σ := rfl
theorem M_cells__high (σ : gM) (v : Int32) : M_cells (M_high_s σ v) = M_cells σ := rfl
theorem M_cells__taped (σ : gM) (v : Int32) : M_cells (M_taped_s σ v) = M_cells σ := rfl
theorem M_cells__fault (σ : gM) (v : Int32) : M_cells (M_fault_s σ v) = M_cells σ := rfl
theorem M_cells__broken (σ : gM) (v : Int32) : M_cells (M_broken_s σ v) = M_cells σ := rfl
theorem M_cells__brokenAt (σ : gM) (v : Int32) : M_cells (M_brokenAt_s σ v) = M_cells σ := rfl
theorem M_cells__spot (σ : gM) (v : Int32) : M_cells (M_spot_s σ v) = M_cells σ := rfl
theorem M_cells__here (σ : gM) (v : Int32) : M_cells (M_here_s σ v) = M_cells σ := rfl
theorem M_cells__token (σ : gM) (v : Int32) : M_cells (M_token_s σ v) = M_cells σ := rfl
theorem M_cells__value (σ : gM) (v : Int32) : M_cells (M_value_s σ v) = M_cells σ := rfl
theorem M_cells__weptBits (σ : gM) (v : Int32) : M_cells (M_weptBits_s σ v) = M_cells σ := rfl
theorem M_cells__weptTimes (σ : gM) (v : Int32) : M_cells (M_weptTimes_s σ v) = M_cells σ := rfl
theorem M_cells__firstNot (σ : gM) (v : Int32) : M_cells (M_firstNot_s σ v) = M_cells σ := rfl
theorem M_cells__seenMany (σ : gM) (v : Int32) : M_cells (M_seenMany_s σ v) = M_cells σ := rfl
theorem M_cells__torn (σ : gM) (v : Int32) : M_cells (M_torn_s σ v) = M_cells σ := rfl
theorem M_cells__state (σ : gM) (v : Nat → Int32) : M_cells (M_state_s σ v) = M_cells σ := rfl
theorem M_cells__brims (σ : gM) (v : Nat → Int32) : M_cells (M_brims_s σ v) = M_cells σ := rfl
theorem M_cells__readPage (σ : gM) (v : Nat → Int32) : M_cells (M_readPage_s σ v) = M_cells σ := rfl
theorem M_cells__tape (σ : gM) (v : Nat → Int32) : M_cells (M_tape_s σ v) = M_cells σ := rfl
theorem M_cells__cuts (σ : gM) (v : Nat → Int32) : M_cells (M_cuts_s σ v) = M_cells σ := rfl
theorem M_cells__letters (σ : gM) (v : Nat → Int32) : M_cells (M_letters_s σ v) = M_cells σ := rfl
theorem M_cells__seen (σ : gM) (v : Nat → Int32) : M_cells (M_seen_s σ v) = M_cells σ := rfl
theorem M_cells__goneBy (σ : gM) (v : Nat → Int32) : M_cells (M_goneBy_s σ v) = M_cells σ := rfl
theorem M_cells__isKept (σ : gM) (v : Nat → Int32) : M_cells (M_isKept_s σ v) = M_cells σ := rfl
theorem M_cells__lanes (σ : gM) (v : Nat → Int32) : M_cells (M_lanes_s σ v) = M_cells σ := rfl
theorem M_cells__lengths (σ : gM) (v : Nat → Int32) : M_cells (M_lengths_s σ v) = M_cells σ := rfl
theorem M_cells__cells (σ : gM) (v : Nat → Int32) : M_cells (M_cells_s σ v) = v := rfl
theorem X_xi__xi (σ : gX) (v : gXI) : X_xi (X_xi_s σ v) = v := rfl
theorem X_xi__now (σ : gX) (v : gS) : X_xi (X_now_s σ v) = X_xi σ := rfl
theorem X_xi__tried (σ : gX) (v : gS) : X_xi (X_tried_s σ v) = X_xi σ := rfl
theorem X_xi__im0 (σ : gX) (v : gS) : X_xi (X_im0_s σ v) = X_xi σ := rfl
theorem X_xi__im1 (σ : gX) (v : gS) : X_xi (X_im1_s σ v) = X_xi σ := rfl
theorem X_xi__seen (σ : gX) (v : Nat → Int32) : X_xi (X_seen_s σ v) = X_xi σ := rfl
theorem X_xi__tape (σ : gX) (v : Nat → Int32) : X_xi (X_tape_s σ v) = X_xi σ := rfl
theorem X_xi__row (σ : gX) (v : Nat → Int32) : X_xi (X_row_s σ v) = X_xi σ := rfl
theorem X_now__xi (σ : gX) (v : gXI) : X_now (X_xi_s σ v) = X_now σ := rfl
theorem X_now__now (σ : gX) (v : gS) : X_now (X_now_s σ v) = v := rfl
theorem X_now__tried (σ : gX) (v : gS) : X_now (X_tried_s σ v) = X_now σ := rfl
theorem X_now__im0 (σ : gX) (v : gS) : X_now (X_im0_s σ v) = X_now σ := rfl
theorem X_now__im1 (σ : gX) (v : gS) : X_now (X_im1_s σ v) = X_now σ := rfl
theorem X_now__seen (σ : gX) (v : Nat → Int32) : X_now (X_seen_s σ v) = X_now σ := rfl
theorem X_now__tape (σ : gX) (v : Nat → Int32) : X_now (X_tape_s σ v) = X_now σ := rfl
theorem X_now__row (σ : gX) (v : Nat → Int32) : X_now (X_row_s σ v) = X_now σ := rfl
theorem X_tried__xi (σ : gX) (v : gXI) : X_tried (X_xi_s σ v) = X_tried σ := rfl
theorem X_tried__now (σ : gX) (v : gS) : X_tried (X_now_s σ v) = X_tried σ := rfl
theorem X_tried__tried (σ : gX) (v : gS) : X_tried (X_tried_s σ v) = v := rfl
theorem X_tried__im0 (σ : gX) (v : gS) : X_tried (X_im0_s σ v) = X_tried σ := rfl
theorem X_tried__im1 (σ : gX) (v : gS) : X_tried (X_im1_s σ v) = X_tried σ := rfl
theorem X_tried__seen (σ : gX) (v : Nat → Int32) : X_tried (X_seen_s σ v) = X_tried σ := rfl
theorem X_tried__tape (σ : gX) (v : Nat → Int32) : X_tried (X_tape_s σ v) = X_tried σ := rfl
theorem X_tried__row (σ : gX) (v : Nat → Int32) : X_tried (X_row_s σ v) = X_tried σ := rfl
theorem X_im0__xi (σ : gX) (v : gXI) : X_im0 (X_xi_s σ v) = X_im0 σ := rfl
theorem X_im0__now (σ : gX) (v : gS) : X_im0 (X_now_s σ v) = X_im0 σ := rfl
theorem X_im0__tried (σ : gX) (v : gS) : X_im0 (X_tried_s σ v) = X_im0 σ := rfl
theorem X_im0__im0 (σ : gX) (v : gS) : X_im0 (X_im0_s σ v) = v := rfl
theorem X_im0__im1 (σ : gX) (v : gS) : X_im0 (X_im1_s σ v) = X_im0 σ := rfl
theorem X_im0__seen (σ : gX) (v : Nat → Int32) : X_im0 (X_seen_s σ v) = X_im0 σ := rfl
theorem X_im0__tape (σ : gX) (v : Nat → Int32) : X_im0 (X_tape_s σ v) = X_im0 σ := rfl
theorem X_im0__row (σ : gX) (v : Nat → Int32) : X_im0 (X_row_s σ v) = X_im0 σ := rfl
theorem X_im1__xi (σ : gX) (v : gXI) : X_im1 (X_xi_s σ v) = X_im1 σ := rfl
theorem X_im1__now (σ : gX) (v : gS) : X_im1 (X_now_s σ v) = X_im1 σ := rfl
theorem X_im1__tried (σ : gX) (v : gS) : X_im1 (X_tried_s σ v) = X_im1 σ := rfl
theorem X_im1__im0 (σ : gX) (v : gS) : X_im1 (X_im0_s σ v) = X_im1 σ := rfl
theorem X_im1__im1 (σ : gX) (v : gS) : X_im1 (X_im1_s σ v) = v := rfl
theorem X_im1__seen (σ : gX) (v : Nat → Int32) : X_im1 (X_seen_s σ v) = X_im1 σ := rfl
theorem X_im1__tape (σ : gX) (v : Nat → Int32) : X_im1 (X_tape_s σ v) = X_im1 σ := rfl
theorem X_im1__row (σ : gX) (v : Nat → Int32) : X_im1 (X_row_s σ v) = X_im1 σ := rfl
theorem X_seen__xi (σ : gX) (v : gXI) : X_seen (X_xi_s σ v) = X_seen σ := rfl
theorem X_seen__now (σ : gX) (v : gS) : X_seen (X_now_s σ v) = X_seen σ := rfl
theorem X_seen__tried (σ : gX) (v : gS) : X_seen (X_tried_s σ v) = X_seen σ := rfl
theorem X_seen__im0 (σ : gX) (v : gS) : X_seen (X_im0_s σ v) = X_seen σ := rfl
theorem X_seen__im1 (σ : gX) (v : gS) : X_seen (X_im1_s σ v) = X_seen σ := rfl
theorem X_seen__seen (σ : gX) (v : Nat → Int32) : X_seen (X_seen_s σ v) = v := rfl
theorem X_seen__tape (σ : gX) (v : Nat → Int32) : X_seen (X_tape_s σ v) = X_seen σ := rfl
theorem X_seen__row (σ : gX) (v : Nat → Int32) : X_seen (X_row_s σ v) = X_seen σ := rfl
theorem X_tape__xi (σ : gX) (v : gXI) : X_tape (X_xi_s σ v) = X_tape σ := rfl
theorem X_tape__now (σ : gX) (v : gS) : X_tape (X_now_s σ v) = X_tape σ := rfl
theorem X_tape__tried (σ : gX) (v : gS) : X_tape (X_tried_s σ v) = X_tape σ := rfl
theorem X_tape__im0 (σ : gX) (v : gS) : X_tape (X_im0_s σ v) = X_tape σ := rfl
theorem X_tape__im1 (σ : gX) (v : gS) : X_tape (X_im1_s σ v) = X_tape σ := rfl
theorem X_tape__seen (σ : gX) (v : Nat → Int32) : X_tape (X_seen_s σ v) = X_tape σ := rfl
theorem X_tape__tape (σ : gX) (v : Nat → Int32) : X_tape (X_tape_s σ v) = v := rfl
theorem X_tape__row (σ : gX) (v : Nat → Int32) : X_tape (X_row_s σ v) = X_tape σ := rfl
theorem X_row__xi (σ : gX) (v : gXI) : X_row (X_xi_s σ v) = X_row σ := rfl
theorem X_row__now (σ : gX) (v : gS) : X_row (X_now_s σ v) = X_row σ := rfl
theorem X_row__tried (σ : gX) (v : gS) : X_row (X_tried_s σ v) = X_row σ := rfl
theorem X_row__im0 (σ : gX) (v : gS) : X_row (X_im0_s σ v) = X_row σ := rfl
theorem X_row__im1 (σ : gX) (v : gS) : X_row (X_im1_s σ v) = X_row σ := rfl
theorem X_row__seen (σ : gX) (v : Nat → Int32) : X_row (X_seen_s σ v) = X_row σ := rfl
theorem X_row__tape (σ : gX) (v : Nat → Int32) : X_row (X_tape_s σ v) = X_row σ := rfl
theorem X_row__row (σ : gX) (v : Nat → Int32) : X_row (X_row_s σ v) = v := rfl
theorem X_rw__xi (σ : gX) (v : gXI) : X_rw (X_xi_s σ v) = X_rw σ := rfl
theorem X_rw__now (σ : gX) (v : gS) : X_rw (X_now_s σ v) = X_rw σ := rfl
theorem X_rw__tried (σ : gX) (v : gS) : X_rw (X_tried_s σ v) = X_rw σ := rfl
theorem X_rw__im0 (σ : gX) (v : gS) : X_rw (X_im0_s σ v) = X_rw σ := rfl
theorem X_rw__im1 (σ : gX) (v : gS) : X_rw (X_im1_s σ v) = X_rw σ := rfl
theorem X_rw__seen (σ : gX) (v : Nat → Int32) : X_rw (X_seen_s σ v) = X_rw σ := rfl
theorem X_rw__tape (σ : gX) (v : Nat → Int32) : X_rw (X_tape_s σ v) = X_rw σ := rfl
theorem X_rw__row (σ : gX) (v : Nat → Int32) : X_rw (X_row_s σ v) = X_rw σ := rfl
theorem I_kept__kept (σ : gXI) (v : Int32) : I_kept (I_kept_s σ v) = v := rfl
theorem I_kept__seenMany (σ : gXI) (v : Int32) : I_kept (I_seenMany_s σ v) = I_kept σ := rfl
theorem I_kept__weepers (σ : gXI) (v : Int32) : I_kept (I_weepers_s σ v) = I_kept σ := rfl
theorem I_kept__often (σ : gXI) (v : Int32) : I_kept (I_often_s σ v) = I_kept σ := rfl
theorem I_kept__firstOver (σ : gXI) (v : Int32) : I_kept (I_firstOver_s σ v) = I_kept σ := rfl
theorem I_kept__taped (σ : gXI) (v : Int32) : I_kept (I_taped_s σ v) = I_kept σ := rfl
theorem I_kept__fault (σ : gXI) (v : Int32) : I_kept (I_fault_s σ v) = I_kept σ := rfl
theorem I_kept__goneSum (σ : gXI) (v : Int64) : I_kept (I_goneSum_s σ v) = I_kept σ := rfl
theorem I_kept__manySum (σ : gXI) (v : Int64) : I_kept (I_manySum_s σ v) = I_kept σ := rfl
theorem I_kept__allWays (σ : gXI) (v : Int64) : I_kept (I_allWays_s σ v) = I_kept σ := rfl
theorem I_kept__torn (σ : gXI) (v : Int32) : I_kept (I_torn_s σ v) = I_kept σ := rfl
theorem I_seenMany__kept (σ : gXI) (v : Int32) : I_seenMany (I_kept_s σ v) = I_seenMany σ := rfl
theorem I_seenMany__seenMany (σ : gXI) (v : Int32) : I_seenMany (I_seenMany_s σ v) = v := rfl
theorem I_seenMany__weepers (σ : gXI) (v : Int32) : I_seenMany (I_weepers_s σ v) = I_seenMany σ := rfl
theorem I_seenMany__often (σ : gXI) (v : Int32) : I_seenMany (I_often_s σ v) = I_seenMany σ := rfl
theorem I_seenMany__firstOver (σ : gXI) (v : Int32) : I_seenMany (I_firstOver_s σ v) = I_seenMany σ := rfl
theorem I_seenMany__taped (σ : gXI) (v : Int32) : I_seenMany (I_taped_s σ v) = I_seenMany σ := rfl
theorem I_seenMany__fault (σ : gXI) (v : Int32) : I_seenMany (I_fault_s σ v) = I_seenMany σ := rfl
theorem I_seenMany__goneSum (σ : gXI) (v : Int64) : I_seenMany (I_goneSum_s σ v) = I_seenMany σ := rfl
theorem I_seenMany__manySum (σ : gXI) (v : Int64) : I_seenMany (I_manySum_s σ v) = I_seenMany σ := rfl
theorem I_seenMany__allWays (σ : gXI) (v : Int64) : I_seenMany (I_allWays_s σ v) = I_seenMany σ := rfl
theorem I_seenMany__torn (σ : gXI) (v : Int32) : I_seenMany (I_torn_s σ v) = I_seenMany σ := rfl
theorem I_weepers__kept (σ : gXI) (v : Int32) : I_weepers (I_kept_s σ v) = I_weepers σ := rfl
theorem I_weepers__seenMany (σ : gXI) (v : Int32) : I_weepers (I_seenMany_s σ v) = I_weepers σ := rfl
theorem I_weepers__weepers (σ : gXI) (v : Int32) : I_weepers (I_weepers_s σ v) = v := rfl
theorem I_weepers__often (σ : gXI) (v : Int32) : I_weepers (I_often_s σ v) = I_weepers σ := rfl
theorem I_weepers__firstOver (σ : gXI) (v : Int32) : I_weepers (I_firstOver_s σ v) = I_weepers σ := rfl
theorem I_weepers__taped (σ : gXI) (v : Int32) : I_weepers (I_taped_s σ v) = I_weepers σ := rfl
theorem I_weepers__fault (σ : gXI) (v : Int32) : I_weepers (I_fault_s σ v) = I_weepers σ := rfl
theorem I_weepers__goneSum (σ : gXI) (v : Int64) : I_weepers (I_goneSum_s σ v) = I_weepers σ := rfl
theorem I_weepers__manySum (σ : gXI) (v : Int64) : I_weepers (I_manySum_s σ v) = I_weepers σ := rfl
theorem I_weepers__allWays (σ : gXI) (v : Int64) : I_weepers (I_allWays_s σ v) = I_weepers σ := rfl
theorem I_weepers__torn (σ : gXI) (v : Int32) : I_weepers (I_torn_s σ v) = I_weepers σ := rfl
theorem I_often__kept (σ : gXI) (v : Int32) : I_often (I_kept_s σ v) = I_often σ := rfl
theorem I_often__seenMany (σ : gXI) (v : Int32) : I_often (I_seenMany_s σ v) = I_often σ := rfl
theorem I_often__weepers (σ : gXI) (v : Int32) : I_often (I_weepers_s σ v) = I_often σ := rfl
theorem I_often__often (σ : gXI) (v : Int32) : I_often (I_often_s σ v) = v := rfl
theorem I_often__firstOver (σ : gXI) (v : Int32) : I_often (I_firstOver_s σ v) = I_often σ := rfl
theorem I_often__taped (σ : gXI) (v : Int32) : I_often (I_taped_s σ v) = I_often σ := rfl
theorem I_often__fault (σ : gXI) (v : Int32) : I_often (I_fault_s σ v) = I_often σ := rfl
theorem I_often__goneSum (σ : gXI) (v : Int64) : I_often (I_goneSum_s σ v) = I_often σ := rfl
theorem I_often__manySum (σ : gXI) (v : Int64) : I_often (I_manySum_s σ v) = I_often σ := rfl
theorem I_often__allWays (σ : gXI) (v : Int64) : I_often (I_allWays_s σ v) = I_often σ := rfl
theorem I_often__torn (σ : gXI) (v : Int32) : I_often (I_torn_s σ v) = I_often σ := rfl
theorem I_firstOver__kept (σ : gXI) (v : Int32) : I_firstOver (I_kept_s σ v) = I_firstOver σ := rfl
theorem I_firstOver__seenMany (σ : gXI) (v : Int32) : I_firstOver (I_seenMany_s σ v) = I_firstOver σ := rfl
theorem I_firstOver__weepers (σ : gXI) (v : Int32) : I_firstOver (I_weepers_s σ v) = I_firstOver σ := rfl
theorem I_firstOver__often (σ : gXI) (v : Int32) : I_firstOver (I_often_s σ v) = I_firstOver σ := rfl
theorem I_firstOver__firstOver (σ : gXI) (v : Int32) : I_firstOver (I_firstOver_s σ v) = v := rfl
theorem I_firstOver__taped (σ : gXI) (v : Int32) : I_firstOver (I_taped_s σ v) = I_firstOver σ := rfl
theorem I_firstOver__fault (σ : gXI) (v : Int32) : I_firstOver (I_fault_s σ v) = I_firstOver σ := rfl
theorem I_firstOver__goneSum (σ : gXI) (v : Int64) : I_firstOver (I_goneSum_s σ v) = I_firstOver σ := rfl
theorem I_firstOver__manySum (σ : gXI) (v : Int64) : I_firstOver (I_manySum_s σ v) = I_firstOver σ := rfl
theorem I_firstOver__allWays (σ : gXI) (v : Int64) : I_firstOver (I_allWays_s σ v) = I_firstOver σ := rfl
theorem I_firstOver__torn (σ : gXI) (v : Int32) : I_firstOver (I_torn_s σ v) = I_firstOver σ := rfl
theorem I_taped__kept (σ : gXI) (v : Int32) : I_taped (I_kept_s σ v) = I_taped σ := rfl
theorem I_taped__seenMany (σ : gXI) (v : Int32) : I_taped (I_seenMany_s σ v) = I_taped σ := rfl
theorem I_taped__weepers (σ : gXI) (v : Int32) : I_taped (I_weepers_s σ v) = I_taped σ := rfl
theorem I_taped__often (σ : gXI) (v : Int32) : I_taped (I_often_s σ v) = I_taped σ := rfl
theorem I_taped__firstOver (σ : gXI) (v : Int32) : I_taped (I_firstOver_s σ v) = I_taped σ := rfl
theorem I_taped__taped (σ : gXI) (v : Int32) : I_taped (I_taped_s σ v) = v := rfl
theorem I_taped__fault (σ : gXI) (v : Int32) : I_taped (I_fault_s σ v) = I_taped σ := rfl
theorem I_taped__goneSum (σ : gXI) (v : Int64) : I_taped (I_goneSum_s σ v) = I_taped σ := rfl
theorem I_taped__manySum (σ : gXI) (v : Int64) : I_taped (I_manySum_s σ v) = I_taped σ := rfl
theorem I_taped__allWays (σ : gXI) (v : Int64) : I_taped (I_allWays_s σ v) = I_taped σ := rfl
theorem I_taped__torn (σ : gXI) (v : Int32) : I_taped (I_torn_s σ v) = I_taped σ := rfl
theorem I_fault__kept (σ : gXI) (v : Int32) : I_fault (I_kept_s σ v) = I_fault σ := rfl
theorem I_fault__seenMany (σ : gXI) (v : Int32) : I_fault (I_seenMany_s σ v) = I_fault σ := rfl
theorem I_fault__weepers (σ : gXI) (v : Int32) : I_fault (I_weepers_s σ v) = I_fault σ := rfl
theorem I_fault__often (σ : gXI) (v : Int32) : I_fault (I_often_s σ v) = I_fault σ := rfl
theorem I_fault__firstOver (σ : gXI) (v : Int32) : I_fault (I_firstOver_s σ v) = I_fault σ := rfl
theorem I_fault__taped (σ : gXI) (v : Int32) : I_fault (I_taped_s σ v) = I_fault σ := rfl
theorem I_fault__fault (σ : gXI) (v : Int32) : I_fault (I_fault_s σ v) = v := rfl
theorem I_fault__goneSum (σ : gXI) (v : Int64) : I_fault (I_goneSum_s σ v) = I_fault σ := rfl
theorem I_fault__manySum (σ : gXI) (v : Int64) : I_fault (I_manySum_s σ v) = I_fault σ := rfl
theorem I_fault__allWays (σ : gXI) (v : Int64) : I_fault (I_allWays_s σ v) = I_fault σ := rfl
theorem I_fault__torn (σ : gXI) (v : Int32) : I_fault (I_torn_s σ v) = I_fault σ := rfl
theorem I_goneSum__kept (σ : gXI) (v : Int32) : I_goneSum (I_kept_s σ v) = I_goneSum σ := rfl
theorem I_goneSum__seenMany (σ : gXI) (v : Int32) : I_goneSum (I_seenMany_s σ v) = I_goneSum σ := rfl
theorem I_goneSum__weepers (σ : gXI) (v : Int32) : I_goneSum (I_weepers_s σ v) = I_goneSum σ := rfl
theorem I_goneSum__often (σ : gXI) (v : Int32) : I_goneSum (I_often_s σ v) = I_goneSum σ := rfl
theorem I_goneSum__firstOver (σ : gXI) (v : Int32) : I_goneSum (I_firstOver_s σ v) = I_goneSum σ := rfl
theorem I_goneSum__taped (σ : gXI) (v : Int32) : I_goneSum (I_taped_s σ v) = I_goneSum σ := rfl
theorem I_goneSum__fault (σ : gXI) (v : Int32) : I_goneSum (I_fault_s σ v) = I_goneSum σ := rfl
theorem I_goneSum__goneSum (σ : gXI) (v : Int64) : I_goneSum (I_goneSum_s σ v) = v := rfl
theorem I_goneSum__manySum (σ : gXI) (v : Int64) : I_goneSum (I_manySum_s σ v) = I_goneSum σ := rfl
theorem I_goneSum__allWays (σ : gXI) (v : Int64) : I_goneSum (I_allWays_s σ v) = I_goneSum σ := rfl
theorem I_goneSum__torn (σ : gXI) (v : Int32) : I_goneSum (I_torn_s σ v) = I_goneSum σ := rfl
theorem I_manySum__kept (σ : gXI) (v : Int32) : I_manySum (I_kept_s σ v) = I_manySum σ := rfl
theorem I_manySum__seenMany (σ : gXI) (v : Int32) : I_manySum (I_seenMany_s σ v) = I_manySum σ := rfl
theorem I_manySum__weepers (σ : gXI) (v : Int32) : I_manySum (I_weepers_s σ v) = I_manySum σ := rfl
theorem I_manySum__often (σ : gXI) (v : Int32) : I_manySum (I_often_s σ v) = I_manySum σ := rfl
theorem I_manySum__firstOver (σ : gXI) (v : Int32) : I_manySum (I_firstOver_s σ v) = I_manySum σ := rfl
theorem I_manySum__taped (σ : gXI) (v : Int32) : I_manySum (I_taped_s σ v) = I_manySum σ := rfl
theorem I_manySum__fault (σ : gXI) (v : Int32) : I_manySum (I_fault_s σ v) = I_manySum σ := rfl
theorem I_manySum__goneSum (σ : gXI) (v : Int64) : I_manySum (I_goneSum_s σ v) = I_manySum σ := rfl
theorem I_manySum__manySum (σ : gXI) (v : Int64) : I_manySum (I_manySum_s σ v) = v := rfl
theorem I_manySum__allWays (σ : gXI) (v : Int64) : I_manySum (I_allWays_s σ v) = I_manySum σ := rfl
theorem I_manySum__torn (σ : gXI) (v : Int32) : I_manySum (I_torn_s σ v) = I_manySum σ := rfl
theorem I_allWays__kept (σ : gXI) (v : Int32) : I_allWays (I_kept_s σ v) = I_allWays σ := rfl
theorem I_allWays__seenMany (σ : gXI) (v : Int32) : I_allWays (I_seenMany_s σ v) = I_allWays σ := rfl
theorem I_allWays__weepers (σ : gXI) (v : Int32) : I_allWays (I_weepers_s σ v) = I_allWays σ := rfl
theorem I_allWays__often (σ : gXI) (v : Int32) : I_allWays (I_often_s σ v) = I_allWays σ := rfl
theorem I_allWays__firstOver (σ : gXI) (v : Int32) : I_allWays (I_firstOver_s σ v) = I_allWays σ := rfl
theorem I_allWays__taped (σ : gXI) (v : Int32) : I_allWays (I_taped_s σ v) = I_allWays σ := rfl
theorem I_allWays__fault (σ : gXI) (v : Int32) : I_allWays (I_fault_s σ v) = I_allWays σ := rfl
theorem I_allWays__goneSum (σ : gXI) (v : Int64) : I_allWays (I_goneSum_s σ v) = I_allWays σ := rfl
theorem I_allWays__manySum (σ : gXI) (v : Int64) : I_allWays (I_manySum_s σ v) = I_allWays σ := rfl
theorem I_allWays__allWays (σ : gXI) (v : Int64) : I_allWays (I_allWays_s σ v) = v := rfl
theorem I_allWays__torn (σ : gXI) (v : Int32) : I_allWays (I_torn_s σ v) = I_allWays σ := rfl
theorem I_torn__kept (σ : gXI) (v : Int32) : I_torn (I_kept_s σ v) = I_torn σ := rfl
theorem I_torn__seenMany (σ : gXI) (v : Int32) : I_torn (I_seenMany_s σ v) = I_torn σ := rfl
theorem I_torn__weepers (σ : gXI) (v : Int32) : I_torn (I_weepers_s σ v) = I_torn σ := rfl
theorem I_torn__often (σ : gXI) (v : Int32) : I_torn (I_often_s σ v) = I_torn σ := rfl
theorem I_torn__firstOver (σ : gXI) (v : Int32) : I_torn (I_firstOver_s σ v) = I_torn σ := rfl
theorem I_torn__taped (σ : gXI) (v : Int32) : I_torn (I_taped_s σ v) = I_torn σ := rfl
theorem I_torn__fault (σ : gXI) (v : Int32) : I_torn (I_fault_s σ v) = I_torn σ := rfl
theorem I_torn__goneSum (σ : gXI) (v : Int64) : I_torn (I_goneSum_s σ v) = I_torn σ := rfl
theorem I_torn__manySum (σ : gXI) (v : Int64) : I_torn (I_manySum_s σ v) = I_torn σ := rfl
theorem I_torn__allWays (σ : gXI) (v : Int64) : I_torn (I_allWays_s σ v) = I_torn σ := rfl
theorem I_torn__torn (σ : gXI) (v : Int32) : I_torn (I_torn_s σ v) = v := rfl
theorem M_oneMany__qm (σ : gM) (a b c : Int32) : M_oneMany (qm σ a b c) = M_oneMany σ := rfl
theorem M_readOnes__qm (σ : gM) (a b c : Int32) : M_readOnes (qm σ a b c) = M_readOnes σ := rfl
theorem M_toldOnce__qm (σ : gM) (a b c : Int32) : M_toldOnce (qm σ a b c) = M_toldOnce σ := rfl
theorem M_high__qm (σ : gM) (a b c : Int32) : M_high (qm σ a b c) = M_high σ := rfl
theorem M_taped__qm (σ : gM) (a b c : Int32) : M_taped (qm σ a b c) = M_taped σ := rfl
theorem M_fault__qm (σ : gM) (a b c : Int32) : M_fault (qm σ a b c) = M_fault σ := rfl
theorem M_broken__qm (σ : gM) (a b c : Int32) : M_broken (qm σ a b c) = M_broken σ := rfl
theorem M_brokenAt__qm (σ : gM) (a b c : Int32) : M_brokenAt (qm σ a b c) = M_brokenAt σ := rfl
theorem M_spot__qm (σ : gM) (a b c : Int32) : M_spot (qm σ a b c) = M_spot σ := rfl
theorem M_here__qm (σ : gM) (a b c : Int32) : M_here (qm σ a b c) = M_here σ := rfl
theorem M_token__qm (σ : gM) (a b c : Int32) : M_token (qm σ a b c) = M_token σ := rfl
theorem M_value__qm (σ : gM) (a b c : Int32) : M_value (qm σ a b c) = M_value σ := rfl
theorem M_seenMany__qm (σ : gM) (a b c : Int32) : M_seenMany (qm σ a b c) = M_seenMany σ := rfl
theorem M_torn__qm (σ : gM) (a b c : Int32) : M_torn (qm σ a b c) = M_torn σ := rfl
theorem M_state__qm (σ : gM) (a b c : Int32) : M_state (qm σ a b c) = M_state σ := rfl
theorem M_brims__qm (σ : gM) (a b c : Int32) : M_brims (qm σ a b c) = M_brims σ := rfl
theorem M_readPage__qm (σ : gM) (a b c : Int32) : M_readPage (qm σ a b c) = M_readPage σ := rfl
theorem M_tape__qm (σ : gM) (a b c : Int32) : M_tape (qm σ a b c) = M_tape σ := rfl
theorem M_cuts__qm (σ : gM) (a b c : Int32) : M_cuts (qm σ a b c) = M_cuts σ := rfl
theorem M_letters__qm (σ : gM) (a b c : Int32) : M_letters (qm σ a b c) = M_letters σ := rfl
theorem M_seen__qm (σ : gM) (a b c : Int32) : M_seen (qm σ a b c) = M_seen σ := rfl
theorem M_goneBy__qm (σ : gM) (a b c : Int32) : M_goneBy (qm σ a b c) = M_goneBy σ := rfl
theorem M_isKept__qm (σ : gM) (a b c : Int32) : M_isKept (qm σ a b c) = M_isKept σ := rfl
theorem M_lanes__qm (σ : gM) (a b c : Int32) : M_lanes (qm σ a b c) = M_lanes σ := rfl
theorem M_lengths__qm (σ : gM) (a b c : Int32) : M_lengths (qm σ a b c) = M_lengths σ := rfl
theorem M_cells__qm (σ : gM) (a b c : Int32) : M_cells (qm σ a b c) = M_cells σ := rfl
