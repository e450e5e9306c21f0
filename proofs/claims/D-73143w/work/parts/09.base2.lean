set_option maxRecDepth 100000
/-- a boolean on the machine -/
def bI (b : Bool) : Int32 := if b then 1 else 0
theorem bI_t : bI true = 1 := rfl
theorem bI_f : bI false = 0 := rfl
theorem bI_0 {b : Bool} : bI b = 0 ↔ b = false := by cases b <;> decide
theorem bI_1 {b : Bool} : ¬ bI b = 0 ↔ b = true := by cases b <;> decide
theorem bI_nar (b : Bool) : narrow .boolean (.int (bI b)) = .int (bI b) := by cases b <;> rfl
theorem bI_inj {a b : Bool} : bI a = bI b ↔ a = b := by cases a <;> cases b <;> decide
theorem nI_inc (k : Nat) : nI k + Int32.ofInt 1 = nI (k + 1) := nI_1 k
theorem nI_dec (k : Nat) : nI (k + 1) + Int32.ofInt (-1) = nI k := pk_m1 k
def ushr (x y : Int32) : Int32 := (x.toUInt32 >>> (y.toUInt32 &&& Int32.toUInt32 31)).toInt32
theorem room_ok {Rm : Room} {fr0 lo0 mc0 ms0 fr lo cells slots maxL : Nat} (h : Rm = rm_ fr0 lo0 mc0 ms0) (hb : (Nat.ble (fr + 1) fr0 && Nat.ble (19 + maxL + lo) lo0 && Nat.ble cells mc0 && Nat.ble slots ms0) = true) : (fr + 1 ≤ Rm.frames ∧ 19 + maxL + lo ≤ Rm.locals) ∧ cells ≤ Rm.cells ∧ slots ≤ Rm.slots := by
  subst h
  simp only [Bool.and_eq_true, Nat.ble_eq] at hb
  exact ⟨⟨hb.1.1.1, hb.1.1.2⟩, hb.1.2, hb.2⟩
theorem sw_out {x : Int32} {lo hi : Int} (h : ∀ v : Int, lo ≤ v → v ≤ hi → ¬ x = Int32.ofInt v) : x.toInt < lo ∨ hi < x.toInt := by
  by_cases h1 : x.toInt < lo
  · exact Or.inl h1
  · by_cases h2 : hi < x.toInt
    · exact Or.inr h2
    · exact absurd (Int32.ofInt_toInt x).symm (h x.toInt (by omega) (by omega))
theorem pnX0 : plainName RX0 = true := by decide
theorem mdX0_init : MD yX0_init 0 := by unfold MD; decide +kernel
theorem mdX0_turn : MD yX0_turn 2 := by unfold MD; decide +kernel
theorem mdX0_isTurn : MD yX0_isTurn 1 := by unfold MD; decide +kernel
theorem mdX0_in : MD yX0_in 2 := by unfold MD; decide +kernel
theorem mdX0_feed : MD yX0_feed 5 := by unfold MD; decide +kernel
theorem mdX0_push : MD yX0_push 1 := by unfold MD; decide +kernel
theorem mdX0_law : MD yX0_law 1 := by unfold MD; decide +kernel
theorem mdX0_within : MD yX0_within 3 := by unfold MD; decide +kernel
theorem mdX0_terrace : MD yX0_terrace 1 := by unfold MD; decide +kernel
theorem mdX0_rota : MD yX0_rota 1 := by unfold MD; decide +kernel
theorem mdX0_days : MD yX0_days 1 := by unfold MD; decide +kernel
theorem mdX0_held : MD yX0_held 2 := by unfold MD; decide +kernel
theorem mdX0_tried : MD yX0_tried 2 := by unfold MD; decide +kernel
theorem mdX0_orNobody : MD yX0_orNobody 1 := by unfold MD; decide +kernel
theorem mdX0_sees : MD yX0_sees 2 := by unfold MD; decide +kernel
theorem mdX0_houseIs : MD yX0_houseIs 2 := by unfold MD; decide +kernel
theorem mdX0_turnsOf : MD yX0_turnsOf 1 := by unfold MD; decide +kernel
theorem mdX0_dark : MD yX0_dark 1 := by unfold MD; decide +kernel
theorem mdX0_rotaIs : MD yX0_rotaIs 1 := by unfold MD; decide +kernel
theorem mdX0_way : MD yX0_way 1 := by unfold MD; decide +kernel
theorem mdX0_seenByAll : MD yX0_seenByAll 0 := by unfold MD; decide +kernel
theorem mdX0_next : MD yX0_next 3 := by unfold MD; decide +kernel
theorem mdX0_has : MD yX0_has 2 := by unfold MD; decide +kernel
theorem mdX0_light : MD yX0_light 2 := by unfold MD; decide +kernel
theorem mdX0_seers : MD yX0_seers 1 := by unfold MD; decide +kernel
theorem mdX0_ifSwapped : MD yX0_ifSwapped 2 := by unfold MD; decide +kernel
theorem mdX0_exchanges : MD yX0_exchanges 2 := by unfold MD; decide +kernel
theorem mdX0_spread : MD yX0_spread 0 := by unfold MD; decide +kernel
theorem mdX0_bestBreath : MD yX0_bestBreath 2 := by unfold MD; decide +kernel
theorem mdX0_othersReading : MD yX0_othersReading 2 := by unfold MD; decide +kernel
theorem mdX0_readers : MD yX0_readers 2 := by unfold MD; decide +kernel
theorem mdX0_clearest : MD yX0_clearest 1 := by unfold MD; decide +kernel
theorem mdX0_clearIn : MD yX0_clearIn 1 := by unfold MD; decide +kernel
theorem mdX0_shortest : MD yX0_shortest 2 := by unfold MD; decide +kernel
theorem mdX0_fed : MD yX0_fed 1 := by unfold MD; decide +kernel
theorem mdX0_turnIsLaid : MD yX0_turnIsLaid 2 := by unfold MD; decide +kernel
theorem mdX0_metBy : MD yX0_metBy 3 := by unfold MD; decide +kernel
theorem mdX0_betters : MD yX0_betters 4 := by unfold MD; decide +kernel
theorem mdX0_whoHad : MD yX0_whoHad 2 := by unfold MD; decide +kernel
theorem mdX0_second : MD yX0_second 1 := by unfold MD; decide +kernel
theorem mdX0_crack : MD yX0_crack 2 := by unfold MD; decide +kernel
theorem mdX0_halves : MD yX0_halves 1 := by unfold MD; decide +kernel
theorem mdX0_swaps : MD yX0_swaps 2 := by unfold MD; decide +kernel
theorem mdX0_mostSwaps : MD yX0_mostSwaps 2 := by unfold MD; decide +kernel
theorem mdX0_wouldSwap : MD yX0_wouldSwap 3 := by unfold MD; decide +kernel
theorem mdX0_worth : MD yX0_worth 3 := by unfold MD; decide +kernel
theorem mdX0_sale : MD yX0_sale 2 := by unfold MD; decide +kernel
theorem mdX0_sells : MD yX0_sells 4 := by unfold MD; decide +kernel
theorem mdX0_rotas : MD yX0_rotas 1 := by unfold MD; decide +kernel
theorem mdX0_panes : MD yX0_panes 2 := by unfold MD; decide +kernel
theorem mdX0_areClear : MD yX0_areClear 4 := by unfold MD; decide +kernel
theorem mdX0_keepIt : MD yX0_keepIt 2 := by unfold MD; decide +kernel
theorem mdX0_hadBy : MD yX0_hadBy 2 := by unfold MD; decide +kernel
theorem mdX0_seed : MD yX0_seed 1 := by unfold MD; decide +kernel
theorem mdX0_keep : MD yX0_keep 0 := by unfold MD; decide +kernel
theorem mdX0_undo : MD yX0_undo 0 := by unfold MD; decide +kernel
theorem mdX0_check : MD yX0_check 1 := by unfold MD; decide +kernel
theorem mdX0_count : MD yX0_count 1 := by unfold MD; decide +kernel
theorem pnX1 : plainName RX1 = true := by decide
theorem mdX1_init : MD yX1_init 0 := by unfold MD; decide +kernel
theorem mdX1_isHouse : MD yX1_isHouse 1 := by unfold MD; decide +kernel
theorem mdX1_isThing : MD yX1_isThing 1 := by unfold MD; decide +kernel
theorem mdX1_takes : MD yX1_takes 1 := by unfold MD; decide +kernel
theorem mdX1_seen : MD yX1_seen 2 := by unfold MD; decide +kernel
theorem mdX1_isSeen : MD yX1_isSeen 3 := by unfold MD; decide +kernel
theorem mdX1_seenEver : MD yX1_seenEver 1 := by unfold MD; decide +kernel
theorem pnX3 : plainName RX3 = true := by decide
theorem mdX3_init : MD yX3_init 0 := by unfold MD; decide +kernel
theorem mdX3_of : MD yX3_of 5 := by unfold MD; decide +kernel
theorem mdX3_on : MD yX3_on 3 := by unfold MD; decide +kernel
theorem mdX3_value : MD yX3_value 1 := by unfold MD; decide +kernel
theorem pnX4 : plainName RX4 = true := by decide
theorem mdX4_init : MD yX4_init 1 := by unfold MD; decide +kernel
theorem mdX4_begins : MD yX4_begins 0 := by unfold MD; decide +kernel
theorem mdX4_goes : MD yX4_goes 1 := by unfold MD; decide +kernel
theorem mdX4_dayGoes : MD yX4_dayGoes 0 := by unfold MD; decide +kernel
theorem mdX4_turnGoes : MD yX4_turnGoes 1 := by unfold MD; decide +kernel
theorem mdX4_draw : MD yX4_draw 0 := by unfold MD; decide +kernel
theorem mdX4_isCarried : MD yX4_isCarried 3 := by unfold MD; decide +kernel
theorem mdX4_asked : MD yX4_asked 3 := by unfold MD; decide +kernel
theorem mdX4_takes : MD yX4_takes 1 := by unfold MD; decide +kernel
theorem mdX4_joyOfAll : MD yX4_joyOfAll 0 := by unfold MD; decide +kernel
theorem mdX4_isAgain : MD yX4_isAgain 1 := by unfold MD; decide +kernel
theorem pnX5 : plainName RX5 = true := by decide
theorem mdX5_init : MD yX5_init 0 := by unfold MD; decide +kernel
theorem mdX5_says : MD yX5_says 2 := by unfold MD; decide +kernel
theorem mdX5_tells : MD yX5_tells 3 := by unfold MD; decide +kernel
theorem pnX6 : plainName RX6 = true := by decide
theorem mdX6_init : MD yX6_init 0 := by unfold MD; decide +kernel
theorem mdX6_turn : MD yX6_turn 2 := by unfold MD; decide +kernel
theorem mdX6_isTurn : MD yX6_isTurn 1 := by unfold MD; decide +kernel
theorem mdX6_in : MD yX6_in 3 := by unfold MD; decide +kernel
theorem mdX6_isHouse : MD yX6_isHouse 1 := by unfold MD; decide +kernel
theorem mdX6_has : MD yX6_has 2 := by unfold MD; decide +kernel
theorem mdX6_sees : MD yX6_sees 2 := by unfold MD; decide +kernel
theorem mdX6_seenBy : MD yX6_seenBy 2 := by unfold MD; decide +kernel
theorem mdX6_isThing : MD yX6_isThing 1 := by unfold MD; decide +kernel
theorem mdX6_isSeen : MD yX6_isSeen 3 := by unfold MD; decide +kernel
theorem mdX6_feed : MD yX6_feed 5 := by unfold MD; decide +kernel
theorem mdX6_types : MD yX6_types 1 := by unfold MD; decide +kernel
theorem mdX6_law : MD yX6_law 1 := by unfold MD; decide +kernel
theorem mdX6_beginsText : MD yX6_beginsText 1 := by unfold MD; decide +kernel
theorem mdX6_readsRule : MD yX6_readsRule 0 := by unfold MD; decide +kernel
theorem mdX6_here : MD yX6_here 0 := by unfold MD; decide +kernel
theorem mdX6_wrongAt : MD yX6_wrongAt 2 := by unfold MD; decide +kernel
theorem mdX6_readsSum : MD yX6_readsSum 0 := by unfold MD; decide +kernel
theorem mdX6_readsFactor : MD yX6_readsFactor 0 := by unfold MD; decide +kernel
theorem mdX6_opens : MD yX6_opens 1 := by unfold MD; decide +kernel
theorem mdX6_isDigit : MD yX6_isDigit 0 := by unfold MD; decide +kernel
theorem mdX6_readsNumber : MD yX6_readsNumber 0 := by unfold MD; decide +kernel
theorem mdX6_notes : MD yX6_notes 2 := by unfold MD; decide +kernel
theorem mdX6_factOf : MD yX6_factOf 1 := by unfold MD; decide +kernel
theorem mdX6_sumSign : MD yX6_sumSign 1 := by unfold MD; decide +kernel
theorem mdX6_closesSums : MD yX6_closesSums 1 := by unfold MD; decide +kernel
theorem mdX6_waitTop : MD yX6_waitTop 0 := by unfold MD; decide +kernel
theorem mdX6_hasOpenSum : MD yX6_hasOpenSum 1 := by unfold MD; decide +kernel
theorem mdX6_readsCondition : MD yX6_readsCondition 0 := by unfold MD; decide +kernel
theorem mdX6_readsCompared : MD yX6_readsCompared 0 := by unfold MD; decide +kernel
theorem mdX6_endsPiece : MD yX6_endsPiece 0 := by unfold MD; decide +kernel
theorem mdX6_lands : MD yX6_lands 1 := by unfold MD; decide +kernel
theorem mdX6_jumps : MD yX6_jumps 1 := by unfold MD; decide +kernel
theorem mdX6_takes : MD yX6_takes 1 := by unfold MD; decide +kernel
theorem mdX6_terrace : MD yX6_terrace 1 := by unfold MD; decide +kernel
theorem mdX6_readsLine : MD yX6_readsLine 0 := by unfold MD; decide +kernel
theorem mdX6_readsHouse : MD yX6_readsHouse 1 := by unfold MD; decide +kernel
theorem mdX6_readsWithin : MD yX6_readsWithin 0 := by unfold MD; decide +kernel
theorem mdX6_readsThing : MD yX6_readsThing 1 := by unfold MD; decide +kernel
theorem mdX6_rota : MD yX6_rota 1 := by unfold MD; decide +kernel
theorem mdX6_readsTurn : MD yX6_readsTurn 0 := by unfold MD; decide +kernel
theorem mdX6_readsTimes : MD yX6_readsTimes 0 := by unfold MD; decide +kernel
theorem mdX6_repeats : MD yX6_repeats 3 := by unfold MD; decide +kernel
theorem mdX6_areTold : MD yX6_areTold 0 := by unfold MD; decide +kernel
theorem mdX6_days : MD yX6_days 1 := by unfold MD; decide +kernel
theorem mdX6_daysGo : MD yX6_daysGo 1 := by unfold MD; decide +kernel
theorem mdX6_dayGoes : MD yX6_dayGoes 0 := by unfold MD; decide +kernel
theorem mdX6_turnGoes : MD yX6_turnGoes 1 := by unfold MD; decide +kernel
theorem mdX6_isCarried : MD yX6_isCarried 3 := by unfold MD; decide +kernel
theorem mdX6_feels : MD yX6_feels 3 := by unfold MD; decide +kernel
theorem mdX6_size : MD yX6_size 1 := by unfold MD; decide +kernel
theorem mdX6_bits : MD yX6_bits 1 := by unfold MD; decide +kernel
theorem mdX6_holdsAny : MD yX6_holdsAny 1 := by unfold MD; decide +kernel
theorem mdX6_reckonsTo : MD yX6_reckonsTo 2 := by unfold MD; decide +kernel
theorem mdX6_reckon : MD yX6_reckon 3 := by unfold MD; decide +kernel
theorem mdX6_byLaw : MD yX6_byLaw 3 := by unfold MD; decide +kernel
theorem mdX6_min : MD yX6_min 2 := by unfold MD; decide +kernel
theorem mdX6_tried : MD yX6_tried 2 := by unfold MD; decide +kernel
theorem mdX6_copies : MD yX6_copies 2 := by unfold MD; decide +kernel
theorem mdX6_orNone : MD yX6_orNone 1 := by unfold MD; decide +kernel
theorem mdX6_joyOfAll : MD yX6_joyOfAll 0 := by unfold MD; decide +kernel
theorem mdX6_houseIs : MD yX6_houseIs 2 := by unfold MD; decide +kernel
theorem mdX6_turnsOf : MD yX6_turnsOf 1 := by unfold MD; decide +kernel
theorem mdX6_darkOf : MD yX6_darkOf 1 := by unfold MD; decide +kernel
theorem mdX6_longestRow : MD yX6_longestRow 1 := by unfold MD; decide +kernel
theorem mdX6_max : MD yX6_max 2 := by unfold MD; decide +kernel
theorem mdX6_everSeenBy : MD yX6_everSeenBy 1 := by unfold MD; decide +kernel
theorem mdX6_rotaIs : MD yX6_rotaIs 1 := by unfold MD; decide +kernel
theorem mdX6_wayOf : MD yX6_wayOf 1 := by unfold MD; decide +kernel
theorem mdX6_seenByRota : MD yX6_seenByRota 0 := by unfold MD; decide +kernel
theorem mdX6_next : MD yX6_next 3 := by unfold MD; decide +kernel
theorem mdX6_light : MD yX6_light 2 := by unfold MD; decide +kernel
theorem mdX6_lightOf : MD yX6_lightOf 1 := by unfold MD; decide +kernel
theorem mdX6_seers : MD yX6_seers 1 := by unfold MD; decide +kernel
theorem mdX6_ifSwapped : MD yX6_ifSwapped 2 := by unfold MD; decide +kernel
theorem mdX6_changesTurns : MD yX6_changesTurns 2 := by unfold MD; decide +kernel
theorem mdX6_spread : MD yX6_spread 0 := by unfold MD; decide +kernel
theorem mdX6_readers : MD yX6_readers 2 := by unfold MD; decide +kernel
theorem mdX6_readersOf : MD yX6_readersOf 2 := by unfold MD; decide +kernel
theorem mdX6_bestBreath : MD yX6_bestBreath 2 := by unfold MD; decide +kernel
theorem mdX6_othersWhoRead : MD yX6_othersWhoRead 2 := by unfold MD; decide +kernel
theorem mdX6_clearest : MD yX6_clearest 1 := by unfold MD; decide +kernel
theorem mdX6_twosAt : MD yX6_twosAt 1 := by unfold MD; decide +kernel
theorem mdX6_whoHad : MD yX6_whoHad 2 := by unfold MD; decide +kernel
theorem mdX6_shortest : MD yX6_shortest 2 := by unfold MD; decide +kernel
theorem mdX6_octet : MD yX6_octet 1 := by unfold MD; decide +kernel
theorem mdX6_leastOfAll : MD yX6_leastOfAll 1 := by unfold MD; decide +kernel
theorem mdX6_stateOf : MD yX6_stateOf 2 := by unfold MD; decide +kernel
theorem mdX6_choosesHouse : MD yX6_choosesHouse 3 := by unfold MD; decide +kernel
theorem mdX6_metBy : MD yX6_metBy 3 := by unfold MD; decide +kernel
theorem mdX6_second : MD yX6_second 1 := by unfold MD; decide +kernel
theorem mdX6_bestSet : MD yX6_bestSet 0 := by unfold MD; decide +kernel
theorem mdX6_lowest : MD yX6_lowest 1 := by unfold MD; decide +kernel
theorem mdX6_crack : MD yX6_crack 2 := by unfold MD; decide +kernel
theorem mdX6_fits : MD yX6_fits 2 := by unfold MD; decide +kernel
theorem mdX6_halves : MD yX6_halves 1 := by unfold MD; decide +kernel
theorem mdX6_sumFrom : MD yX6_sumFrom 2 := by unfold MD; decide +kernel
theorem mdX6_swaps : MD yX6_swaps 2 := by unfold MD; decide +kernel
theorem mdX6_mostAtOnce : MD yX6_mostAtOnce 1 := by unfold MD; decide +kernel
theorem mdX6_bothWould : MD yX6_bothWould 3 := by unfold MD; decide +kernel
theorem mdX6_worth : MD yX6_worth 3 := by unfold MD; decide +kernel
theorem mdX6_sale : MD yX6_sale 2 := by unfold MD; decide +kernel
theorem mdX6_laysSale : MD yX6_laysSale 1 := by unfold MD; decide +kernel
theorem mdX6_rotas : MD yX6_rotas 1 := by unfold MD; decide +kernel
theorem mdX6_panes : MD yX6_panes 2 := by unfold MD; decide +kernel
theorem mdX6_tallFrom : MD yX6_tallFrom 4 := by unfold MD; decide +kernel
theorem mdX6_areClear : MD yX6_areClear 3 := by unfold MD; decide +kernel
theorem mdX6_keepIt : MD yX6_keepIt 2 := by unfold MD; decide +kernel
theorem mdX6_hasBy : MD yX6_hasBy 2 := by unfold MD; decide +kernel
theorem mdX6_seed : MD yX6_seed 1 := by unfold MD; decide +kernel
theorem mdX6_keep : MD yX6_keep 0 := by unfold MD; decide +kernel
theorem mdX6_undo : MD yX6_undo 0 := by unfold MD; decide +kernel
theorem mdX6_check : MD yX6_check 1 := by unfold MD; decide +kernel
theorem mdX6_count : MD yX6_count 1 := by unfold MD; decide +kernel
theorem pnX7 : plainName RX7 = true := by decide
theorem mdX7_init : MD yX7_init 2 := by unfold MD; decide +kernel
theorem mdX7_read : MD yX7_read 0 := by unfold MD; decide +kernel
theorem mdX7_isGood : MD yX7_isGood 0 := by unfold MD; decide +kernel
theorem mdX7_clause : MD yX7_clause 0 := by unfold MD; decide +kernel
theorem mdX7_here : MD yX7_here 0 := by unfold MD; decide +kernel
theorem mdX7_bad : MD yX7_bad 2 := by unfold MD; decide +kernel
theorem mdX7_sum : MD yX7_sum 0 := by unfold MD; decide +kernel
theorem mdX7_product : MD yX7_product 0 := by unfold MD; decide +kernel
theorem mdX7_factor : MD yX7_factor 0 := by unfold MD; decide +kernel
theorem mdX7_opens : MD yX7_opens 0 := by unfold MD; decide +kernel
theorem mdX7_must : MD yX7_must 1 := by unfold MD; decide +kernel
theorem mdX7_seesDigit : MD yX7_seesDigit 0 := by unfold MD; decide +kernel
theorem mdX7_number : MD yX7_number 0 := by unfold MD; decide +kernel
theorem mdX7_condition : MD yX7_condition 0 := by unfold MD; decide +kernel
theorem mdX7_pieces : MD yX7_pieces 0 := by unfold MD; decide +kernel
theorem mdX7_piece : MD yX7_piece 0 := by unfold MD; decide +kernel
theorem pnX8 : plainName RX8 = true := by decide
theorem mdX8_init : MD yX8_init 0 := by unfold MD; decide +kernel
theorem mdX8_told : MD yX8_told 1 := by unfold MD; decide +kernel
theorem pnX9 : plainName RX9 = true := by decide
theorem mdX9_init : MD yX9_init 2 := by unfold MD; decide +kernel
theorem mdX9_worth : MD yX9_worth 1 := by unfold MD; decide +kernel
theorem mdX9_worked : MD yX9_worked 4 := by unfold MD; decide +kernel
theorem pnX10 : plainName RX10 = true := by decide
theorem mdX10_init : MD yX10_init 1 := by unfold MD; decide +kernel
theorem mdX10_worth : MD yX10_worth 1 := by unfold MD; decide +kernel
theorem pnX11 : plainName RX11 = true := by decide
theorem mdX11_init : MD yX11_init 1 := by unfold MD; decide +kernel
theorem mdX11_worth : MD yX11_worth 1 := by unfold MD; decide +kernel
theorem pnX12 : plainName RX12 = true := by decide
theorem mdX12_init : MD yX12_init 0 := by unfold MD; decide +kernel
theorem pnX13 : plainName RX13 = true := by decide
theorem mdX13_init : MD yX13_init 2 := by unfold MD; decide +kernel
theorem mdX13_holds : MD yX13_holds 1 := by unfold MD; decide +kernel
theorem pnX14 : plainName RX14 = true := by decide
theorem mdX14_init : MD yX14_init 1 := by unfold MD; decide +kernel
theorem mdX14_holds : MD yX14_holds 1 := by unfold MD; decide +kernel
theorem pnX15 : plainName RX15 = true := by decide
theorem mdX15_init : MD yX15_init 3 := by unfold MD; decide +kernel
theorem mdX15_holds : MD yX15_holds 1 := by unfold MD; decide +kernel
theorem pnX16 : plainName RX16 = true := by decide
theorem mdX16_init : MD yX16_init 2 := by unfold MD; decide +kernel
theorem mdX16_isIn : MD yX16_isIn 2 := by unfold MD; decide +kernel
theorem mdX16_here : MD yX16_here 0 := by unfold MD; decide +kernel
theorem mdX16_place : MD yX16_place 0 := by unfold MD; decide +kernel
theorem mdX16_bad : MD yX16_bad 2 := by unfold MD; decide +kernel
theorem mdX16_goesOn : MD yX16_goesOn 0 := by unfold MD; decide +kernel
theorem mdX16_isGood : MD yX16_isGood 0 := by unfold MD; decide +kernel
theorem mdX16_must : MD yX16_must 1 := by unfold MD; decide +kernel
theorem mdX16_isEnd : MD yX16_isEnd 0 := by unfold MD; decide +kernel
theorem mdX16_answer : MD yX16_answer 1 := by unfold MD; decide +kernel
theorem pnX17 : plainName RX17 = true := by decide
theorem mdX17_init : MD yX17_init 2 := by unfold MD; decide +kernel
theorem mdX17_read : MD yX17_read 0 := by unfold MD; decide +kernel
theorem mdX17_line : MD yX17_line 0 := by unfold MD; decide +kernel
theorem mdX17_house : MD yX17_house 1 := by unfold MD; decide +kernel
theorem mdX17_number : MD yX17_number 0 := by unfold MD; decide +kernel
theorem mdX17_thing : MD yX17_thing 1 := by unfold MD; decide +kernel
theorem pnX18 : plainName RX18 = true := by decide
theorem mdX18_init : MD yX18_init 2 := by unfold MD; decide +kernel
theorem mdX18_read : MD yX18_read 0 := by unfold MD; decide +kernel
theorem mdX18_all : MD yX18_all 0 := by unfold MD; decide +kernel
theorem mdX18_one : MD yX18_one 0 := by unfold MD; decide +kernel
theorem mdX18_rounds : MD yX18_rounds 0 := by unfold MD; decide +kernel
theorem mdX18_seesOne : MD yX18_seesOne 0 := by unfold MD; decide +kernel
theorem pnJ0 : plainName RJ0 = true := by decide
theorem mdJ0_indexOf : MD yJ0_indexOf 1 := by unfold MD; decide +kernel
theorem mdJ0_indexOf_2 : MD yJ0_indexOf_2 2 := by unfold MD; decide +kernel
theorem mdJ0_isLatin1 : MD yJ0_isLatin1 0 := by unfold MD; decide +kernel
theorem mdJ0_length : MD yJ0_length 0 := by unfold MD; decide +kernel
theorem mdJ0_coder : MD yJ0_coder 0 := by unfold MD; decide +kernel
theorem mdJ0_checkBoundsBeginEnd : MD yJ0_checkBoundsBeginEnd 3 := by unfold MD; decide +kernel
theorem pnJ1 : plainName RJ1 = true := by decide
theorem mdJ1_indexOf : MD yJ1_indexOf 4 := by unfold MD; decide +kernel
theorem mdJ1_canEncode : MD yJ1_canEncode 1 := by unfold MD; decide +kernel
theorem mdJ1_indexOfChar : MD yJ1_indexOfChar 4 := by unfold MD; decide +kernel
theorem mdJ2_max : MD yJ2_max 2 := by unfold MD; decide +kernel
theorem mdJ2_min : MD yJ2_min 2 := by unfold MD; decide +kernel
theorem mdJ2_floorMod : MD yJ2_floorMod 2 := by unfold MD; decide +kernel
theorem mdJ2_abs : MD yJ2_abs 1 := by unfold MD; decide +kernel
theorem pnJ6 : plainName RJ6 = true := by decide
theorem mdJ6_bitCount : MD yJ6_bitCount 1 := by unfold MD; decide +kernel
theorem mdJ6_numberOfTrailingZeros : MD yJ6_numberOfTrailingZeros 1 := by unfold MD; decide +kernel
