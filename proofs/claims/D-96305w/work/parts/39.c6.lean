set_option maxRecDepth 100000
theorem mg_xW_ppW_10_19 {aT : Nat → ClassId} {ad : Nat → Nat} {v_latestFault : Int32} {v_died : Int32} {v_leastWeight : Int32} {v_noticedBy : Int32} {v_noticed : Int32} {v_orderDied : Int32} {v_orderLeast : Int32} {v_imaged : Option Nat} {v_shelves : Nat → Option Nat} {v_refusals : Nat → Int32} {v_ran : Int32} {v_bodies : Nat → Int32} {v_tweight : Int32} {v_tfright : Int32} {v_tage : Int32} {v_tasked : Nat → Int32} {v_told : Nat → Int32} {v_bestRow : Nat → Int32} {v_weight_a1 : Int32} {v_fright_a1 : Int32} {v_age_a1 : Int32} {v_asked_a1 : Nat → Int32} {v_weight_a2 : Int32} {v_fright_a2 : Int32} {v_age_a2 : Int32} {v_asked_a2 : Nat → Int32} {v_weight_a3 : Int32} {v_fright_a3 : Int32} {v_age_a3 : Int32} {v_asked_a3 : Nat → Int32} {v_weight_a4 : Int32} {v_fright_a4 : Int32} {v_age_a4 : Int32} {v_asked_a4 : Nat → Int32} {v_many : Int32} {v_pets : Int32} {v_last : Int32} {v_seed : Int32} {v_weight : Int32} {v_fright : Int32} {v_age : Int32} {v_asked : Nat → Int32} {v_homes : Nat → Option Nat} {v_marks : Nat → Int32} {v_had : Nat → Int32} {v_allergic : Nat → Int32} {v_deaths : Nat → Int32} {u_weight : Int32} {u_fright : Int32} {u_age : Int32} {u_asked : Nat → Int32} {u_weight2 : Int32} {u_fright2 : Int32} {u_age2 : Int32} {u_asked2 : Nat → Int32} : mergeAt (xW aT ad v_latestFault v_died v_leastWeight v_noticedBy v_noticed v_orderDied v_orderLeast v_imaged v_shelves v_refusals v_ran v_bodies v_tweight v_tfright v_tage v_tasked v_told v_bestRow v_weight_a1 v_fright_a1 v_age_a1 v_asked_a1 v_weight_a2 v_fright_a2 v_age_a2 v_asked_a2 v_weight_a3 v_fright_a3 v_age_a3 v_asked_a3 v_weight_a4 v_fright_a4 v_age_a4 v_asked_a4 v_many v_pets v_last v_seed v_weight v_fright v_age v_asked v_homes v_marks v_had v_allergic v_deaths) [10, 11, 19, 20] (ppW aT (fun i => ad (if i < 2 then 10 + i else 19 + (i - 2))) u_weight u_fright u_age u_asked u_weight2 u_fright2 u_age2 u_asked2) = (xW aT ad v_latestFault v_died v_leastWeight v_noticedBy v_noticed v_orderDied v_orderLeast v_imaged v_shelves v_refusals v_ran v_bodies v_tweight v_tfright v_tage v_tasked v_told v_bestRow u_weight u_fright u_age u_asked v_weight_a2 v_fright_a2 v_age_a2 v_asked_a2 v_weight_a3 v_fright_a3 v_age_a3 v_asked_a3 v_weight_a4 v_fright_a4 v_age_a4 v_asked_a4 v_many v_pets v_last v_seed u_weight2 u_fright2 u_age2 u_asked2 v_homes v_marks v_had v_allergic v_deaths) := rfl
theorem sub_xW_ppW_10_19 {aT : Nat → ClassId} {ad : Nat → Nat} {v_latestFault : Int32} {v_died : Int32} {v_leastWeight : Int32} {v_noticedBy : Int32} {v_noticed : Int32} {v_orderDied : Int32} {v_orderLeast : Int32} {v_imaged : Option Nat} {v_shelves : Nat → Option Nat} {v_refusals : Nat → Int32} {v_ran : Int32} {v_bodies : Nat → Int32} {v_tweight : Int32} {v_tfright : Int32} {v_tage : Int32} {v_tasked : Nat → Int32} {v_told : Nat → Int32} {v_bestRow : Nat → Int32} {v_weight_a1 : Int32} {v_fright_a1 : Int32} {v_age_a1 : Int32} {v_asked_a1 : Nat → Int32} {v_weight_a2 : Int32} {v_fright_a2 : Int32} {v_age_a2 : Int32} {v_asked_a2 : Nat → Int32} {v_weight_a3 : Int32} {v_fright_a3 : Int32} {v_age_a3 : Int32} {v_asked_a3 : Nat → Int32} {v_weight_a4 : Int32} {v_fright_a4 : Int32} {v_age_a4 : Int32} {v_asked_a4 : Nat → Int32} {v_many : Int32} {v_pets : Int32} {v_last : Int32} {v_seed : Int32} {v_weight : Int32} {v_fright : Int32} {v_age : Int32} {v_asked : Nat → Int32} {v_homes : Nat → Option Nat} {v_marks : Nat → Int32} {v_had : Nat → Int32} {v_allergic : Nat → Int32} {v_deaths : Nat → Int32} : ([10, 11, 19, 20] : List Nat).filterMap (fun i => (xW aT ad v_latestFault v_died v_leastWeight v_noticedBy v_noticed v_orderDied v_orderLeast v_imaged v_shelves v_refusals v_ran v_bodies v_tweight v_tfright v_tage v_tasked v_told v_bestRow v_weight_a1 v_fright_a1 v_age_a1 v_asked_a1 v_weight_a2 v_fright_a2 v_age_a2 v_asked_a2 v_weight_a3 v_fright_a3 v_age_a3 v_asked_a3 v_weight_a4 v_fright_a4 v_age_a4 v_asked_a4 v_many v_pets v_last v_seed v_weight v_fright v_age v_asked v_homes v_marks v_had v_allergic v_deaths)[i]?) = (ppW aT (fun i => ad (if i < 2 then 10 + i else 19 + (i - 2))) v_weight_a1 v_fright_a1 v_age_a1 v_asked_a1 v_weight v_fright v_age v_asked) := rfl
theorem mg_xW_pW_10 {aT : Nat → ClassId} {ad : Nat → Nat} {v_latestFault : Int32} {v_died : Int32} {v_leastWeight : Int32} {v_noticedBy : Int32} {v_noticed : Int32} {v_orderDied : Int32} {v_orderLeast : Int32} {v_imaged : Option Nat} {v_shelves : Nat → Option Nat} {v_refusals : Nat → Int32} {v_ran : Int32} {v_bodies : Nat → Int32} {v_tweight : Int32} {v_tfright : Int32} {v_tage : Int32} {v_tasked : Nat → Int32} {v_told : Nat → Int32} {v_bestRow : Nat → Int32} {v_weight_a1 : Int32} {v_fright_a1 : Int32} {v_age_a1 : Int32} {v_asked_a1 : Nat → Int32} {v_weight_a2 : Int32} {v_fright_a2 : Int32} {v_age_a2 : Int32} {v_asked_a2 : Nat → Int32} {v_weight_a3 : Int32} {v_fright_a3 : Int32} {v_age_a3 : Int32} {v_asked_a3 : Nat → Int32} {v_weight_a4 : Int32} {v_fright_a4 : Int32} {v_age_a4 : Int32} {v_asked_a4 : Nat → Int32} {v_many : Int32} {v_pets : Int32} {v_last : Int32} {v_seed : Int32} {v_weight : Int32} {v_fright : Int32} {v_age : Int32} {v_asked : Nat → Int32} {v_homes : Nat → Option Nat} {v_marks : Nat → Int32} {v_had : Nat → Int32} {v_allergic : Nat → Int32} {v_deaths : Nat → Int32} {u_weight : Int32} {u_fright : Int32} {u_age : Int32} {u_asked : Nat → Int32} : mergeAt (xW aT ad v_latestFault v_died v_leastWeight v_noticedBy v_noticed v_orderDied v_orderLeast v_imaged v_shelves v_refusals v_ran v_bodies v_tweight v_tfright v_tage v_tasked v_told v_bestRow v_weight_a1 v_fright_a1 v_age_a1 v_asked_a1 v_weight_a2 v_fright_a2 v_age_a2 v_asked_a2 v_weight_a3 v_fright_a3 v_age_a3 v_asked_a3 v_weight_a4 v_fright_a4 v_age_a4 v_asked_a4 v_many v_pets v_last v_seed v_weight v_fright v_age v_asked v_homes v_marks v_had v_allergic v_deaths) [10, 11] (pW aT (fun i => ad (10 + i)) u_weight u_fright u_age u_asked) = (xW aT ad v_latestFault v_died v_leastWeight v_noticedBy v_noticed v_orderDied v_orderLeast v_imaged v_shelves v_refusals v_ran v_bodies v_tweight v_tfright v_tage v_tasked v_told v_bestRow u_weight u_fright u_age u_asked v_weight_a2 v_fright_a2 v_age_a2 v_asked_a2 v_weight_a3 v_fright_a3 v_age_a3 v_asked_a3 v_weight_a4 v_fright_a4 v_age_a4 v_asked_a4 v_many v_pets v_last v_seed v_weight v_fright v_age v_asked v_homes v_marks v_had v_allergic v_deaths) := rfl
theorem sub_xW_pW_10 {aT : Nat → ClassId} {ad : Nat → Nat} {v_latestFault : Int32} {v_died : Int32} {v_leastWeight : Int32} {v_noticedBy : Int32} {v_noticed : Int32} {v_orderDied : Int32} {v_orderLeast : Int32} {v_imaged : Option Nat} {v_shelves : Nat → Option Nat} {v_refusals : Nat → Int32} {v_ran : Int32} {v_bodies : Nat → Int32} {v_tweight : Int32} {v_tfright : Int32} {v_tage : Int32} {v_tasked : Nat → Int32} {v_told : Nat → Int32} {v_bestRow : Nat → Int32} {v_weight_a1 : Int32} {v_fright_a1 : Int32} {v_age_a1 : Int32} {v_asked_a1 : Nat → Int32} {v_weight_a2 : Int32} {v_fright_a2 : Int32} {v_age_a2 : Int32} {v_asked_a2 : Nat → Int32} {v_weight_a3 : Int32} {v_fright_a3 : Int32} {v_age_a3 : Int32} {v_asked_a3 : Nat → Int32} {v_weight_a4 : Int32} {v_fright_a4 : Int32} {v_age_a4 : Int32} {v_asked_a4 : Nat → Int32} {v_many : Int32} {v_pets : Int32} {v_last : Int32} {v_seed : Int32} {v_weight : Int32} {v_fright : Int32} {v_age : Int32} {v_asked : Nat → Int32} {v_homes : Nat → Option Nat} {v_marks : Nat → Int32} {v_had : Nat → Int32} {v_allergic : Nat → Int32} {v_deaths : Nat → Int32} : ([10, 11] : List Nat).filterMap (fun i => (xW aT ad v_latestFault v_died v_leastWeight v_noticedBy v_noticed v_orderDied v_orderLeast v_imaged v_shelves v_refusals v_ran v_bodies v_tweight v_tfright v_tage v_tasked v_told v_bestRow v_weight_a1 v_fright_a1 v_age_a1 v_asked_a1 v_weight_a2 v_fright_a2 v_age_a2 v_asked_a2 v_weight_a3 v_fright_a3 v_age_a3 v_asked_a3 v_weight_a4 v_fright_a4 v_age_a4 v_asked_a4 v_many v_pets v_last v_seed v_weight v_fright v_age v_asked v_homes v_marks v_had v_allergic v_deaths)[i]?) = (pW aT (fun i => ad (10 + i)) v_weight_a1 v_fright_a1 v_age_a1 v_asked_a1) := rfl
theorem mg_xW_ppW_10_12 {aT : Nat → ClassId} {ad : Nat → Nat} {v_latestFault : Int32} {v_died : Int32} {v_leastWeight : Int32} {v_noticedBy : Int32} {v_noticed : Int32} {v_orderDied : Int32} {v_orderLeast : Int32} {v_imaged : Option Nat} {v_shelves : Nat → Option Nat} {v_refusals : Nat → Int32} {v_ran : Int32} {v_bodies : Nat → Int32} {v_tweight : Int32} {v_tfright : Int32} {v_tage : Int32} {v_tasked : Nat → Int32} {v_told : Nat → Int32} {v_bestRow : Nat → Int32} {v_weight_a1 : Int32} {v_fright_a1 : Int32} {v_age_a1 : Int32} {v_asked_a1 : Nat → Int32} {v_weight_a2 : Int32} {v_fright_a2 : Int32} {v_age_a2 : Int32} {v_asked_a2 : Nat → Int32} {v_weight_a3 : Int32} {v_fright_a3 : Int32} {v_age_a3 : Int32} {v_asked_a3 : Nat → Int32} {v_weight_a4 : Int32} {v_fright_a4 : Int32} {v_age_a4 : Int32} {v_asked_a4 : Nat → Int32} {v_many : Int32} {v_pets : Int32} {v_last : Int32} {v_seed : Int32} {v_weight : Int32} {v_fright : Int32} {v_age : Int32} {v_asked : Nat → Int32} {v_homes : Nat → Option Nat} {v_marks : Nat → Int32} {v_had : Nat → Int32} {v_allergic : Nat → Int32} {v_deaths : Nat → Int32} {u_weight : Int32} {u_fright : Int32} {u_age : Int32} {u_asked : Nat → Int32} {u_weight2 : Int32} {u_fright2 : Int32} {u_age2 : Int32} {u_asked2 : Nat → Int32} : mergeAt (xW aT ad v_latestFault v_died v_leastWeight v_noticedBy v_noticed v_orderDied v_orderLeast v_imaged v_shelves v_refusals v_ran v_bodies v_tweight v_tfright v_tage v_tasked v_told v_bestRow v_weight_a1 v_fright_a1 v_age_a1 v_asked_a1 v_weight_a2 v_fright_a2 v_age_a2 v_asked_a2 v_weight_a3 v_fright_a3 v_age_a3 v_asked_a3 v_weight_a4 v_fright_a4 v_age_a4 v_asked_a4 v_many v_pets v_last v_seed v_weight v_fright v_age v_asked v_homes v_marks v_had v_allergic v_deaths) [10, 11, 12, 13] (ppW aT (fun i => ad (10 + i)) u_weight u_fright u_age u_asked u_weight2 u_fright2 u_age2 u_asked2) = (xW aT ad v_latestFault v_died v_leastWeight v_noticedBy v_noticed v_orderDied v_orderLeast v_imaged v_shelves v_refusals v_ran v_bodies v_tweight v_tfright v_tage v_tasked v_told v_bestRow u_weight u_fright u_age u_asked u_weight2 u_fright2 u_age2 u_asked2 v_weight_a3 v_fright_a3 v_age_a3 v_asked_a3 v_weight_a4 v_fright_a4 v_age_a4 v_asked_a4 v_many v_pets v_last v_seed v_weight v_fright v_age v_asked v_homes v_marks v_had v_allergic v_deaths) := rfl
theorem sub_xW_ppW_10_12 {aT : Nat → ClassId} {ad : Nat → Nat} {v_latestFault : Int32} {v_died : Int32} {v_leastWeight : Int32} {v_noticedBy : Int32} {v_noticed : Int32} {v_orderDied : Int32} {v_orderLeast : Int32} {v_imaged : Option Nat} {v_shelves : Nat → Option Nat} {v_refusals : Nat → Int32} {v_ran : Int32} {v_bodies : Nat → Int32} {v_tweight : Int32} {v_tfright : Int32} {v_tage : Int32} {v_tasked : Nat → Int32} {v_told : Nat → Int32} {v_bestRow : Nat → Int32} {v_weight_a1 : Int32} {v_fright_a1 : Int32} {v_age_a1 : Int32} {v_asked_a1 : Nat → Int32} {v_weight_a2 : Int32} {v_fright_a2 : Int32} {v_age_a2 : Int32} {v_asked_a2 : Nat → Int32} {v_weight_a3 : Int32} {v_fright_a3 : Int32} {v_age_a3 : Int32} {v_asked_a3 : Nat → Int32} {v_weight_a4 : Int32} {v_fright_a4 : Int32} {v_age_a4 : Int32} {v_asked_a4 : Nat → Int32} {v_many : Int32} {v_pets : Int32} {v_last : Int32} {v_seed : Int32} {v_weight : Int32} {v_fright : Int32} {v_age : Int32} {v_asked : Nat → Int32} {v_homes : Nat → Option Nat} {v_marks : Nat → Int32} {v_had : Nat → Int32} {v_allergic : Nat → Int32} {v_deaths : Nat → Int32} : ([10, 11, 12, 13] : List Nat).filterMap (fun i => (xW aT ad v_latestFault v_died v_leastWeight v_noticedBy v_noticed v_orderDied v_orderLeast v_imaged v_shelves v_refusals v_ran v_bodies v_tweight v_tfright v_tage v_tasked v_told v_bestRow v_weight_a1 v_fright_a1 v_age_a1 v_asked_a1 v_weight_a2 v_fright_a2 v_age_a2 v_asked_a2 v_weight_a3 v_fright_a3 v_age_a3 v_asked_a3 v_weight_a4 v_fright_a4 v_age_a4 v_asked_a4 v_many v_pets v_last v_seed v_weight v_fright v_age v_asked v_homes v_marks v_had v_allergic v_deaths)[i]?) = (ppW aT (fun i => ad (10 + i)) v_weight_a1 v_fright_a1 v_age_a1 v_asked_a1 v_weight_a2 v_fright_a2 v_age_a2 v_asked_a2) := rfl
theorem mg_xW_ppW_12_19 {aT : Nat → ClassId} {ad : Nat → Nat} {v_latestFault : Int32} {v_died : Int32} {v_leastWeight : Int32} {v_noticedBy : Int32} {v_noticed : Int32} {v_orderDied : Int32} {v_orderLeast : Int32} {v_imaged : Option Nat} {v_shelves : Nat → Option Nat} {v_refusals : Nat → Int32} {v_ran : Int32} {v_bodies : Nat → Int32} {v_tweight : Int32} {v_tfright : Int32} {v_tage : Int32} {v_tasked : Nat → Int32} {v_told : Nat → Int32} {v_bestRow : Nat → Int32} {v_weight_a1 : Int32} {v_fright_a1 : Int32} {v_age_a1 : Int32} {v_asked_a1 : Nat → Int32} {v_weight_a2 : Int32} {v_fright_a2 : Int32} {v_age_a2 : Int32} {v_asked_a2 : Nat → Int32} {v_weight_a3 : Int32} {v_fright_a3 : Int32} {v_age_a3 : Int32} {v_asked_a3 : Nat → Int32} {v_weight_a4 : Int32} {v_fright_a4 : Int32} {v_age_a4 : Int32} {v_asked_a4 : Nat → Int32} {v_many : Int32} {v_pets : Int32} {v_last : Int32} {v_seed : Int32} {v_weight : Int32} {v_fright : Int32} {v_age : Int32} {v_asked : Nat → Int32} {v_homes : Nat → Option Nat} {v_marks : Nat → Int32} {v_had : Nat → Int32} {v_allergic : Nat → Int32} {v_deaths : Nat → Int32} {u_weight : Int32} {u_fright : Int32} {u_age : Int32} {u_asked : Nat → Int32} {u_weight2 : Int32} {u_fright2 : Int32} {u_age2 : Int32} {u_asked2 : Nat → Int32} : mergeAt (xW aT ad v_latestFault v_died v_leastWeight v_noticedBy v_noticed v_orderDied v_orderLeast v_imaged v_shelves v_refusals v_ran v_bodies v_tweight v_tfright v_tage v_tasked v_told v_bestRow v_weight_a1 v_fright_a1 v_age_a1 v_asked_a1 v_weight_a2 v_fright_a2 v_age_a2 v_asked_a2 v_weight_a3 v_fright_a3 v_age_a3 v_asked_a3 v_weight_a4 v_fright_a4 v_age_a4 v_asked_a4 v_many v_pets v_last v_seed v_weight v_fright v_age v_asked v_homes v_marks v_had v_allergic v_deaths) [12, 13, 19, 20] (ppW aT (fun i => ad (if i < 2 then 12 + i else 19 + (i - 2))) u_weight u_fright u_age u_asked u_weight2 u_fright2 u_age2 u_asked2) = (xW aT ad v_latestFault v_died v_leastWeight v_noticedBy v_noticed v_orderDied v_orderLeast v_imaged v_shelves v_refusals v_ran v_bodies v_tweight v_tfright v_tage v_tasked v_told v_bestRow v_weight_a1 v_fright_a1 v_age_a1 v_asked_a1 u_weight u_fright u_age u_asked v_weight_a3 v_fright_a3 v_age_a3 v_asked_a3 v_weight_a4 v_fright_a4 v_age_a4 v_asked_a4 v_many v_pets v_last v_seed u_weight2 u_fright2 u_age2 u_asked2 v_homes v_marks v_had v_allergic v_deaths) := rfl
theorem sub_xW_ppW_12_19 {aT : Nat → ClassId} {ad : Nat → Nat} {v_latestFault : Int32} {v_died : Int32} {v_leastWeight : Int32} {v_noticedBy : Int32} {v_noticed : Int32} {v_orderDied : Int32} {v_orderLeast : Int32} {v_imaged : Option Nat} {v_shelves : Nat → Option Nat} {v_refusals : Nat → Int32} {v_ran : Int32} {v_bodies : Nat → Int32} {v_tweight : Int32} {v_tfright : Int32} {v_tage : Int32} {v_tasked : Nat → Int32} {v_told : Nat → Int32} {v_bestRow : Nat → Int32} {v_weight_a1 : Int32} {v_fright_a1 : Int32} {v_age_a1 : Int32} {v_asked_a1 : Nat → Int32} {v_weight_a2 : Int32} {v_fright_a2 : Int32} {v_age_a2 : Int32} {v_asked_a2 : Nat → Int32} {v_weight_a3 : Int32} {v_fright_a3 : Int32} {v_age_a3 : Int32} {v_asked_a3 : Nat → Int32} {v_weight_a4 : Int32} {v_fright_a4 : Int32} {v_age_a4 : Int32} {v_asked_a4 : Nat → Int32} {v_many : Int32} {v_pets : Int32} {v_last : Int32} {v_seed : Int32} {v_weight : Int32} {v_fright : Int32} {v_age : Int32} {v_asked : Nat → Int32} {v_homes : Nat → Option Nat} {v_marks : Nat → Int32} {v_had : Nat → Int32} {v_allergic : Nat → Int32} {v_deaths : Nat → Int32} : ([12, 13, 19, 20] : List Nat).filterMap (fun i => (xW aT ad v_latestFault v_died v_leastWeight v_noticedBy v_noticed v_orderDied v_orderLeast v_imaged v_shelves v_refusals v_ran v_bodies v_tweight v_tfright v_tage v_tasked v_told v_bestRow v_weight_a1 v_fright_a1 v_age_a1 v_asked_a1 v_weight_a2 v_fright_a2 v_age_a2 v_asked_a2 v_weight_a3 v_fright_a3 v_age_a3 v_asked_a3 v_weight_a4 v_fright_a4 v_age_a4 v_asked_a4 v_many v_pets v_last v_seed v_weight v_fright v_age v_asked v_homes v_marks v_had v_allergic v_deaths)[i]?) = (ppW aT (fun i => ad (if i < 2 then 12 + i else 19 + (i - 2))) v_weight_a2 v_fright_a2 v_age_a2 v_asked_a2 v_weight v_fright v_age v_asked) := rfl
theorem mg_xW_pW_12 {aT : Nat → ClassId} {ad : Nat → Nat} {v_latestFault : Int32} {v_died : Int32} {v_leastWeight : Int32} {v_noticedBy : Int32} {v_noticed : Int32} {v_orderDied : Int32} {v_orderLeast : Int32} {v_imaged : Option Nat} {v_shelves : Nat → Option Nat} {v_refusals : Nat → Int32} {v_ran : Int32} {v_bodies : Nat → Int32} {v_tweight : Int32} {v_tfright : Int32} {v_tage : Int32} {v_tasked : Nat → Int32} {v_told : Nat → Int32} {v_bestRow : Nat → Int32} {v_weight_a1 : Int32} {v_fright_a1 : Int32} {v_age_a1 : Int32} {v_asked_a1 : Nat → Int32} {v_weight_a2 : Int32} {v_fright_a2 : Int32} {v_age_a2 : Int32} {v_asked_a2 : Nat → Int32} {v_weight_a3 : Int32} {v_fright_a3 : Int32} {v_age_a3 : Int32} {v_asked_a3 : Nat → Int32} {v_weight_a4 : Int32} {v_fright_a4 : Int32} {v_age_a4 : Int32} {v_asked_a4 : Nat → Int32} {v_many : Int32} {v_pets : Int32} {v_last : Int32} {v_seed : Int32} {v_weight : Int32} {v_fright : Int32} {v_age : Int32} {v_asked : Nat → Int32} {v_homes : Nat → Option Nat} {v_marks : Nat → Int32} {v_had : Nat → Int32} {v_allergic : Nat → Int32} {v_deaths : Nat → Int32} {u_weight : Int32} {u_fright : Int32} {u_age : Int32} {u_asked : Nat → Int32} : mergeAt (xW aT ad v_latestFault v_died v_leastWeight v_noticedBy v_noticed v_orderDied v_orderLeast v_imaged v_shelves v_refusals v_ran v_bodies v_tweight v_tfright v_tage v_tasked v_told v_bestRow v_weight_a1 v_fright_a1 v_age_a1 v_asked_a1 v_weight_a2 v_fright_a2 v_age_a2 v_asked_a2 v_weight_a3 v_fright_a3 v_age_a3 v_asked_a3 v_weight_a4 v_fright_a4 v_age_a4 v_asked_a4 v_many v_pets v_last v_seed v_weight v_fright v_age v_asked v_homes v_marks v_had v_allergic v_deaths) [12, 13] (pW aT (fun i => ad (12 + i)) u_weight u_fright u_age u_asked) = (xW aT ad v_latestFault v_died v_leastWeight v_noticedBy v_noticed v_orderDied v_orderLeast v_imaged v_shelves v_refusals v_ran v_bodies v_tweight v_tfright v_tage v_tasked v_told v_bestRow v_weight_a1 v_fright_a1 v_age_a1 v_asked_a1 u_weight u_fright u_age u_asked v_weight_a3 v_fright_a3 v_age_a3 v_asked_a3 v_weight_a4 v_fright_a4 v_age_a4 v_asked_a4 v_many v_pets v_last v_seed v_weight v_fright v_age v_asked v_homes v_marks v_had v_allergic v_deaths) := rfl
theorem sub_xW_pW_12 {aT : Nat → ClassId} {ad : Nat → Nat} {v_latestFault : Int32} {v_died : Int32} {v_leastWeight : Int32} {v_noticedBy : Int32} {v_noticed : Int32} {v_orderDied : Int32} {v_orderLeast : Int32} {v_imaged : Option Nat} {v_shelves : Nat → Option Nat} {v_refusals : Nat → Int32} {v_ran : Int32} {v_bodies : Nat → Int32} {v_tweight : Int32} {v_tfright : Int32} {v_tage : Int32} {v_tasked : Nat → Int32} {v_told : Nat → Int32} {v_bestRow : Nat → Int32} {v_weight_a1 : Int32} {v_fright_a1 : Int32} {v_age_a1 : Int32} {v_asked_a1 : Nat → Int32} {v_weight_a2 : Int32} {v_fright_a2 : Int32} {v_age_a2 : Int32} {v_asked_a2 : Nat → Int32} {v_weight_a3 : Int32} {v_fright_a3 : Int32} {v_age_a3 : Int32} {v_asked_a3 : Nat → Int32} {v_weight_a4 : Int32} {v_fright_a4 : Int32} {v_age_a4 : Int32} {v_asked_a4 : Nat → Int32} {v_many : Int32} {v_pets : Int32} {v_last : Int32} {v_seed : Int32} {v_weight : Int32} {v_fright : Int32} {v_age : Int32} {v_asked : Nat → Int32} {v_homes : Nat → Option Nat} {v_marks : Nat → Int32} {v_had : Nat → Int32} {v_allergic : Nat → Int32} {v_deaths : Nat → Int32} : ([12, 13] : List Nat).filterMap (fun i => (xW aT ad v_latestFault v_died v_leastWeight v_noticedBy v_noticed v_orderDied v_orderLeast v_imaged v_shelves v_refusals v_ran v_bodies v_tweight v_tfright v_tage v_tasked v_told v_bestRow v_weight_a1 v_fright_a1 v_age_a1 v_asked_a1 v_weight_a2 v_fright_a2 v_age_a2 v_asked_a2 v_weight_a3 v_fright_a3 v_age_a3 v_asked_a3 v_weight_a4 v_fright_a4 v_age_a4 v_asked_a4 v_many v_pets v_last v_seed v_weight v_fright v_age v_asked v_homes v_marks v_had v_allergic v_deaths)[i]?) = (pW aT (fun i => ad (12 + i)) v_weight_a2 v_fright_a2 v_age_a2 v_asked_a2) := rfl
theorem mg_xW_ppW_12_14 {aT : Nat → ClassId} {ad : Nat → Nat} {v_latestFault : Int32} {v_died : Int32} {v_leastWeight : Int32} {v_noticedBy : Int32} {v_noticed : Int32} {v_orderDied : Int32} {v_orderLeast : Int32} {v_imaged : Option Nat} {v_shelves : Nat → Option Nat} {v_refusals : Nat → Int32} {v_ran : Int32} {v_bodies : Nat → Int32} {v_tweight : Int32} {v_tfright : Int32} {v_tage : Int32} {v_tasked : Nat → Int32} {v_told : Nat → Int32} {v_bestRow : Nat → Int32} {v_weight_a1 : Int32} {v_fright_a1 : Int32} {v_age_a1 : Int32} {v_asked_a1 : Nat → Int32} {v_weight_a2 : Int32} {v_fright_a2 : Int32} {v_age_a2 : Int32} {v_asked_a2 : Nat → Int32} {v_weight_a3 : Int32} {v_fright_a3 : Int32} {v_age_a3 : Int32} {v_asked_a3 : Nat → Int32} {v_weight_a4 : Int32} {v_fright_a4 : Int32} {v_age_a4 : Int32} {v_asked_a4 : Nat → Int32} {v_many : Int32} {v_pets : Int32} {v_last : Int32} {v_seed : Int32} {v_weight : Int32} {v_fright : Int32} {v_age : Int32} {v_asked : Nat → Int32} {v_homes : Nat → Option Nat} {v_marks : Nat → Int32} {v_had : Nat → Int32} {v_allergic : Nat → Int32} {v_deaths : Nat → Int32} {u_weight : Int32} {u_fright : Int32} {u_age : Int32} {u_asked : Nat → Int32} {u_weight2 : Int32} {u_fright2 : Int32} {u_age2 : Int32} {u_asked2 : Nat → Int32} : mergeAt (xW aT ad v_latestFault v_died v_leastWeight v_noticedBy v_noticed v_orderDied v_orderLeast v_imaged v_shelves v_refusals v_ran v_bodies v_tweight v_tfright v_tage v_tasked v_told v_bestRow v_weight_a1 v_fright_a1 v_age_a1 v_asked_a1 v_weight_a2 v_fright_a2 v_age_a2 v_asked_a2 v_weight_a3 v_fright_a3 v_age_a3 v_asked_a3 v_weight_a4 v_fright_a4 v_age_a4 v_asked_a4 v_many v_pets v_last v_seed v_weight v_fright v_age v_asked v_homes v_marks v_had v_allergic v_deaths) [12, 13, 14, 15] (ppW aT (fun i => ad (12 + i)) u_weight u_fright u_age u_asked u_weight2 u_fright2 u_age2 u_asked2) = (xW aT ad v_latestFault v_died v_leastWeight v_noticedBy v_noticed v_orderDied v_orderLeast v_imaged v_shelves v_refusals v_ran v_bodies v_tweight v_tfright v_tage v_tasked v_told v_bestRow v_weight_a1 v_fright_a1 v_age_a1 v_asked_a1 u_weight u_fright u_age u_asked u_weight2 u_fright2 u_age2 u_asked2 v_weight_a4 v_fright_a4 v_age_a4 v_asked_a4 v_many v_pets v_last v_seed v_weight v_fright v_age v_asked v_homes v_marks v_had v_allergic v_deaths) := rfl
theorem sub_xW_ppW_12_14 {aT : Nat → ClassId} {ad : Nat → Nat} {v_latestFault : Int32} {v_died : Int32} {v_leastWeight : Int32} {v_noticedBy : Int32} {v_noticed : Int32} {v_orderDied : Int32} {v_orderLeast : Int32} {v_imaged : Option Nat} {v_shelves : Nat → Option Nat} {v_refusals : Nat → Int32} {v_ran : Int32} {v_bodies : Nat → Int32} {v_tweight : Int32} {v_tfright : Int32} {v_tage : Int32} {v_tasked : Nat → Int32} {v_told : Nat → Int32} {v_bestRow : Nat → Int32} {v_weight_a1 : Int32} {v_fright_a1 : Int32} {v_age_a1 : Int32} {v_asked_a1 : Nat → Int32} {v_weight_a2 : Int32} {v_fright_a2 : Int32} {v_age_a2 : Int32} {v_asked_a2 : Nat → Int32} {v_weight_a3 : Int32} {v_fright_a3 : Int32} {v_age_a3 : Int32} {v_asked_a3 : Nat → Int32} {v_weight_a4 : Int32} {v_fright_a4 : Int32} {v_age_a4 : Int32} {v_asked_a4 : Nat → Int32} {v_many : Int32} {v_pets : Int32} {v_last : Int32} {v_seed : Int32} {v_weight : Int32} {v_fright : Int32} {v_age : Int32} {v_asked : Nat → Int32} {v_homes : Nat → Option Nat} {v_marks : Nat → Int32} {v_had : Nat → Int32} {v_allergic : Nat → Int32} {v_deaths : Nat → Int32} : ([12, 13, 14, 15] : List Nat).filterMap (fun i => (xW aT ad v_latestFault v_died v_leastWeight v_noticedBy v_noticed v_orderDied v_orderLeast v_imaged v_shelves v_refusals v_ran v_bodies v_tweight v_tfright v_tage v_tasked v_told v_bestRow v_weight_a1 v_fright_a1 v_age_a1 v_asked_a1 v_weight_a2 v_fright_a2 v_age_a2 v_asked_a2 v_weight_a3 v_fright_a3 v_age_a3 v_asked_a3 v_weight_a4 v_fright_a4 v_age_a4 v_asked_a4 v_many v_pets v_last v_seed v_weight v_fright v_age v_asked v_homes v_marks v_had v_allergic v_deaths)[i]?) = (ppW aT (fun i => ad (12 + i)) v_weight_a2 v_fright_a2 v_age_a2 v_asked_a2 v_weight_a3 v_fright_a3 v_age_a3 v_asked_a3) := rfl
theorem mg_xW_ppW_14_19 {aT : Nat → ClassId} {ad : Nat → Nat} {v_latestFault : Int32} {v_died : Int32} {v_leastWeight : Int32} {v_noticedBy : Int32} {v_noticed : Int32} {v_orderDied : Int32} {v_orderLeast : Int32} {v_imaged : Option Nat} {v_shelves : Nat → Option Nat} {v_refusals : Nat → Int32} {v_ran : Int32} {v_bodies : Nat → Int32} {v_tweight : Int32} {v_tfright : Int32} {v_tage : Int32} {v_tasked : Nat → Int32} {v_told : Nat → Int32} {v_bestRow : Nat → Int32} {v_weight_a1 : Int32} {v_fright_a1 : Int32} {v_age_a1 : Int32} {v_asked_a1 : Nat → Int32} {v_weight_a2 : Int32} {v_fright_a2 : Int32} {v_age_a2 : Int32} {v_asked_a2 : Nat → Int32} {v_weight_a3 : Int32} {v_fright_a3 : Int32} {v_age_a3 : Int32} {v_asked_a3 : Nat → Int32} {v_weight_a4 : Int32} {v_fright_a4 : Int32} {v_age_a4 : Int32} {v_asked_a4 : Nat → Int32} {v_many : Int32} {v_pets : Int32} {v_last : Int32} {v_seed : Int32} {v_weight : Int32} {v_fright : Int32} {v_age : Int32} {v_asked : Nat → Int32} {v_homes : Nat → Option Nat} {v_marks : Nat → Int32} {v_had : Nat → Int32} {v_allergic : Nat → Int32} {v_deaths : Nat → Int32} {u_weight : Int32} {u_fright : Int32} {u_age : Int32} {u_asked : Nat → Int32} {u_weight2 : Int32} {u_fright2 : Int32} {u_age2 : Int32} {u_asked2 : Nat → Int32} : mergeAt (xW aT ad v_latestFault v_died v_leastWeight v_noticedBy v_noticed v_orderDied v_orderLeast v_imaged v_shelves v_refusals v_ran v_bodies v_tweight v_tfright v_tage v_tasked v_told v_bestRow v_weight_a1 v_fright_a1 v_age_a1 v_asked_a1 v_weight_a2 v_fright_a2 v_age_a2 v_asked_a2 v_weight_a3 v_fright_a3 v_age_a3 v_asked_a3 v_weight_a4 v_fright_a4 v_age_a4 v_asked_a4 v_many v_pets v_last v_seed v_weight v_fright v_age v_asked v_homes v_marks v_had v_allergic v_deaths) [14, 15, 19, 20] (ppW aT (fun i => ad (if i < 2 then 14 + i else 19 + (i - 2))) u_weight u_fright u_age u_asked u_weight2 u_fright2 u_age2 u_asked2) = (xW aT ad v_latestFault v_died v_leastWeight v_noticedBy v_noticed v_orderDied v_orderLeast v_imaged v_shelves v_refusals v_ran v_bodies v_tweight v_tfright v_tage v_tasked v_told v_bestRow v_weight_a1 v_fright_a1 v_age_a1 v_asked_a1 v_weight_a2 v_fright_a2 v_age_a2 v_asked_a2 u_weight u_fright u_age u_asked v_weight_a4 v_fright_a4 v_age_a4 v_asked_a4 v_many v_pets v_last v_seed u_weight2 u_fright2 u_age2 u_asked2 v_homes v_marks v_had v_allergic v_deaths) := rfl
theorem sub_xW_ppW_14_19 {aT : Nat → ClassId} {ad : Nat → Nat} {v_latestFault : Int32} {v_died : Int32} {v_leastWeight : Int32} {v_noticedBy : Int32} {v_noticed : Int32} {v_orderDied : Int32} {v_orderLeast : Int32} {v_imaged : Option Nat} {v_shelves : Nat → Option Nat} {v_refusals : Nat → Int32} {v_ran : Int32} {v_bodies : Nat → Int32} {v_tweight : Int32} {v_tfright : Int32} {v_tage : Int32} {v_tasked : Nat → Int32} {v_told : Nat → Int32} {v_bestRow : Nat → Int32} {v_weight_a1 : Int32} {v_fright_a1 : Int32} {v_age_a1 : Int32} {v_asked_a1 : Nat → Int32} {v_weight_a2 : Int32} {v_fright_a2 : Int32} {v_age_a2 : Int32} {v_asked_a2 : Nat → Int32} {v_weight_a3 : Int32} {v_fright_a3 : Int32} {v_age_a3 : Int32} {v_asked_a3 : Nat → Int32} {v_weight_a4 : Int32} {v_fright_a4 : Int32} {v_age_a4 : Int32} {v_asked_a4 : Nat → Int32} {v_many : Int32} {v_pets : Int32} {v_last : Int32} {v_seed : Int32} {v_weight : Int32} {v_fright : Int32} {v_age : Int32} {v_asked : Nat → Int32} {v_homes : Nat → Option Nat} {v_marks : Nat → Int32} {v_had : Nat → Int32} {v_allergic : Nat → Int32} {v_deaths : Nat → Int32} : ([14, 15, 19, 20] : List Nat).filterMap (fun i => (xW aT ad v_latestFault v_died v_leastWeight v_noticedBy v_noticed v_orderDied v_orderLeast v_imaged v_shelves v_refusals v_ran v_bodies v_tweight v_tfright v_tage v_tasked v_told v_bestRow v_weight_a1 v_fright_a1 v_age_a1 v_asked_a1 v_weight_a2 v_fright_a2 v_age_a2 v_asked_a2 v_weight_a3 v_fright_a3 v_age_a3 v_asked_a3 v_weight_a4 v_fright_a4 v_age_a4 v_asked_a4 v_many v_pets v_last v_seed v_weight v_fright v_age v_asked v_homes v_marks v_had v_allergic v_deaths)[i]?) = (ppW aT (fun i => ad (if i < 2 then 14 + i else 19 + (i - 2))) v_weight_a3 v_fright_a3 v_age_a3 v_asked_a3 v_weight v_fright v_age v_asked) := rfl
theorem mg_xW_pW_14 {aT : Nat → ClassId} {ad : Nat → Nat} {v_latestFault : Int32} {v_died : Int32} {v_leastWeight : Int32} {v_noticedBy : Int32} {v_noticed : Int32} {v_orderDied : Int32} {v_orderLeast : Int32} {v_imaged : Option Nat} {v_shelves : Nat → Option Nat} {v_refusals : Nat → Int32} {v_ran : Int32} {v_bodies : Nat → Int32} {v_tweight : Int32} {v_tfright : Int32} {v_tage : Int32} {v_tasked : Nat → Int32} {v_told : Nat → Int32} {v_bestRow : Nat → Int32} {v_weight_a1 : Int32} {v_fright_a1 : Int32} {v_age_a1 : Int32} {v_asked_a1 : Nat → Int32} {v_weight_a2 : Int32} {v_fright_a2 : Int32} {v_age_a2 : Int32} {v_asked_a2 : Nat → Int32} {v_weight_a3 : Int32} {v_fright_a3 : Int32} {v_age_a3 : Int32} {v_asked_a3 : Nat → Int32} {v_weight_a4 : Int32} {v_fright_a4 : Int32} {v_age_a4 : Int32} {v_asked_a4 : Nat → Int32} {v_many : Int32} {v_pets : Int32} {v_last : Int32} {v_seed : Int32} {v_weight : Int32} {v_fright : Int32} {v_age : Int32} {v_asked : Nat → Int32} {v_homes : Nat → Option Nat} {v_marks : Nat → Int32} {v_had : Nat → Int32} {v_allergic : Nat → Int32} {v_deaths : Nat → Int32} {u_weight : Int32} {u_fright : Int32} {u_age : Int32} {u_asked : Nat → Int32} : mergeAt (xW aT ad v_latestFault v_died v_leastWeight v_noticedBy v_noticed v_orderDied v_orderLeast v_imaged v_shelves v_refusals v_ran v_bodies v_tweight v_tfright v_tage v_tasked v_told v_bestRow v_weight_a1 v_fright_a1 v_age_a1 v_asked_a1 v_weight_a2 v_fright_a2 v_age_a2 v_asked_a2 v_weight_a3 v_fright_a3 v_age_a3 v_asked_a3 v_weight_a4 v_fright_a4 v_age_a4 v_asked_a4 v_many v_pets v_last v_seed v_weight v_fright v_age v_asked v_homes v_marks v_had v_allergic v_deaths) [14, 15] (pW aT (fun i => ad (14 + i)) u_weight u_fright u_age u_asked) = (xW aT ad v_latestFault v_died v_leastWeight v_noticedBy v_noticed v_orderDied v_orderLeast v_imaged v_shelves v_refusals v_ran v_bodies v_tweight v_tfright v_tage v_tasked v_told v_bestRow v_weight_a1 v_fright_a1 v_age_a1 v_asked_a1 v_weight_a2 v_fright_a2 v_age_a2 v_asked_a2 u_weight u_fright u_age u_asked v_weight_a4 v_fright_a4 v_age_a4 v_asked_a4 v_many v_pets v_last v_seed v_weight v_fright v_age v_asked v_homes v_marks v_had v_allergic v_deaths) := rfl
theorem sub_xW_pW_14 {aT : Nat → ClassId} {ad : Nat → Nat} {v_latestFault : Int32} {v_died : Int32} {v_leastWeight : Int32} {v_noticedBy : Int32} {v_noticed : Int32} {v_orderDied : Int32} {v_orderLeast : Int32} {v_imaged : Option Nat} {v_shelves : Nat → Option Nat} {v_refusals : Nat → Int32} {v_ran : Int32} {v_bodies : Nat → Int32} {v_tweight : Int32} {v_tfright : Int32} {v_tage : Int32} {v_tasked : Nat → Int32} {v_told : Nat → Int32} {v_bestRow : Nat → Int32} {v_weight_a1 : Int32} {v_fright_a1 : Int32} {v_age_a1 : Int32} {v_asked_a1 : Nat → Int32} {v_weight_a2 : Int32} {v_fright_a2 : Int32} {v_age_a2 : Int32} {v_asked_a2 : Nat → Int32} {v_weight_a3 : Int32} {v_fright_a3 : Int32} {v_age_a3 : Int32} {v_asked_a3 : Nat → Int32} {v_weight_a4 : Int32} {v_fright_a4 : Int32} {v_age_a4 : Int32} {v_asked_a4 : Nat → Int32} {v_many : Int32} {v_pets : Int32} {v_last : Int32} {v_seed : Int32} {v_weight : Int32} {v_fright : Int32} {v_age : Int32} {v_asked : Nat → Int32} {v_homes : Nat → Option Nat} {v_marks : Nat → Int32} {v_had : Nat → Int32} {v_allergic : Nat → Int32} {v_deaths : Nat → Int32} : ([14, 15] : List Nat).filterMap (fun i => (xW aT ad v_latestFault v_died v_leastWeight v_noticedBy v_noticed v_orderDied v_orderLeast v_imaged v_shelves v_refusals v_ran v_bodies v_tweight v_tfright v_tage v_tasked v_told v_bestRow v_weight_a1 v_fright_a1 v_age_a1 v_asked_a1 v_weight_a2 v_fright_a2 v_age_a2 v_asked_a2 v_weight_a3 v_fright_a3 v_age_a3 v_asked_a3 v_weight_a4 v_fright_a4 v_age_a4 v_asked_a4 v_many v_pets v_last v_seed v_weight v_fright v_age v_asked v_homes v_marks v_had v_allergic v_deaths)[i]?) = (pW aT (fun i => ad (14 + i)) v_weight_a3 v_fright_a3 v_age_a3 v_asked_a3) := rfl
theorem mg_xW_ppW_14_16 {aT : Nat → ClassId} {ad : Nat → Nat} {v_latestFault : Int32} {v_died : Int32} {v_leastWeight : Int32} {v_noticedBy : Int32} {v_noticed : Int32} {v_orderDied : Int32} {v_orderLeast : Int32} {v_imaged : Option Nat} {v_shelves : Nat → Option Nat} {v_refusals : Nat → Int32} {v_ran : Int32} {v_bodies : Nat → Int32} {v_tweight : Int32} {v_tfright : Int32} {v_tage : Int32} {v_tasked : Nat → Int32} {v_told : Nat → Int32} {v_bestRow : Nat → Int32} {v_weight_a1 : Int32} {v_fright_a1 : Int32} {v_age_a1 : Int32} {v_asked_a1 : Nat → Int32} {v_weight_a2 : Int32} {v_fright_a2 : Int32} {v_age_a2 : Int32} {v_asked_a2 : Nat → Int32} {v_weight_a3 : Int32} {v_fright_a3 : Int32} {v_age_a3 : Int32} {v_asked_a3 : Nat → Int32} {v_weight_a4 : Int32} {v_fright_a4 : Int32} {v_age_a4 : Int32} {v_asked_a4 : Nat → Int32} {v_many : Int32} {v_pets : Int32} {v_last : Int32} {v_seed : Int32} {v_weight : Int32} {v_fright : Int32} {v_age : Int32} {v_asked : Nat → Int32} {v_homes : Nat → Option Nat} {v_marks : Nat → Int32} {v_had : Nat → Int32} {v_allergic : Nat → Int32} {v_deaths : Nat → Int32} {u_weight : Int32} {u_fright : Int32} {u_age : Int32} {u_asked : Nat → Int32} {u_weight2 : Int32} {u_fright2 : Int32} {u_age2 : Int32} {u_asked2 : Nat → Int32} : mergeAt (xW aT ad v_latestFault v_died v_leastWeight v_noticedBy v_noticed v_orderDied v_orderLeast v_imaged v_shelves v_refusals v_ran v_bodies v_tweight v_tfright v_tage v_tasked v_told v_bestRow v_weight_a1 v_fright_a1 v_age_a1 v_asked_a1 v_weight_a2 v_fright_a2 v_age_a2 v_asked_a2 v_weight_a3 v_fright_a3 v_age_a3 v_asked_a3 v_weight_a4 v_fright_a4 v_age_a4 v_asked_a4 v_many v_pets v_last v_seed v_weight v_fright v_age v_asked v_homes v_marks v_had v_allergic v_deaths) [14, 15, 16, 17] (ppW aT (fun i => ad (14 + i)) u_weight u_fright u_age u_asked u_weight2 u_fright2 u_age2 u_asked2) = (xW aT ad v_latestFault v_died v_leastWeight v_noticedBy v_noticed v_orderDied v_orderLeast v_imaged v_shelves v_refusals v_ran v_bodies v_tweight v_tfright v_tage v_tasked v_told v_bestRow v_weight_a1 v_fright_a1 v_age_a1 v_asked_a1 v_weight_a2 v_fright_a2 v_age_a2 v_asked_a2 u_weight u_fright u_age u_asked u_weight2 u_fright2 u_age2 u_asked2 v_many v_pets v_last v_seed v_weight v_fright v_age v_asked v_homes v_marks v_had v_allergic v_deaths) := rfl
theorem sub_xW_ppW_14_16 {aT : Nat → ClassId} {ad : Nat → Nat} {v_latestFault : Int32} {v_died : Int32} {v_leastWeight : Int32} {v_noticedBy : Int32} {v_noticed : Int32} {v_orderDied : Int32} {v_orderLeast : Int32} {v_imaged : Option Nat} {v_shelves : Nat → Option Nat} {v_refusals : Nat → Int32} {v_ran : Int32} {v_bodies : Nat → Int32} {v_tweight : Int32} {v_tfright : Int32} {v_tage : Int32} {v_tasked : Nat → Int32} {v_told : Nat → Int32} {v_bestRow : Nat → Int32} {v_weight_a1 : Int32} {v_fright_a1 : Int32} {v_age_a1 : Int32} {v_asked_a1 : Nat → Int32} {v_weight_a2 : Int32} {v_fright_a2 : Int32} {v_age_a2 : Int32} {v_asked_a2 : Nat → Int32} {v_weight_a3 : Int32} {v_fright_a3 : Int32} {v_age_a3 : Int32} {v_asked_a3 : Nat → Int32} {v_weight_a4 : Int32} {v_fright_a4 : Int32} {v_age_a4 : Int32} {v_asked_a4 : Nat → Int32} {v_many : Int32} {v_pets : Int32} {v_last : Int32} {v_seed : Int32} {v_weight : Int32} {v_fright : Int32} {v_age : Int32} {v_asked : Nat → Int32} {v_homes : Nat → Option Nat} {v_marks : Nat → Int32} {v_had : Nat → Int32} {v_allergic : Nat → Int32} {v_deaths : Nat → Int32} : ([14, 15, 16, 17] : List Nat).filterMap (fun i => (xW aT ad v_latestFault v_died v_leastWeight v_noticedBy v_noticed v_orderDied v_orderLeast v_imaged v_shelves v_refusals v_ran v_bodies v_tweight v_tfright v_tage v_tasked v_told v_bestRow v_weight_a1 v_fright_a1 v_age_a1 v_asked_a1 v_weight_a2 v_fright_a2 v_age_a2 v_asked_a2 v_weight_a3 v_fright_a3 v_age_a3 v_asked_a3 v_weight_a4 v_fright_a4 v_age_a4 v_asked_a4 v_many v_pets v_last v_seed v_weight v_fright v_age v_asked v_homes v_marks v_had v_allergic v_deaths)[i]?) = (ppW aT (fun i => ad (14 + i)) v_weight_a3 v_fright_a3 v_age_a3 v_asked_a3 v_weight_a4 v_fright_a4 v_age_a4 v_asked_a4) := rfl
theorem mg_xW_ppW_16_19 {aT : Nat → ClassId} {ad : Nat → Nat} {v_latestFault : Int32} {v_died : Int32} {v_leastWeight : Int32} {v_noticedBy : Int32} {v_noticed : Int32} {v_orderDied : Int32} {v_orderLeast : Int32} {v_imaged : Option Nat} {v_shelves : Nat → Option Nat} {v_refusals : Nat → Int32} {v_ran : Int32} {v_bodies : Nat → Int32} {v_tweight : Int32} {v_tfright : Int32} {v_tage : Int32} {v_tasked : Nat → Int32} {v_told : Nat → Int32} {v_bestRow : Nat → Int32} {v_weight_a1 : Int32} {v_fright_a1 : Int32} {v_age_a1 : Int32} {v_asked_a1 : Nat → Int32} {v_weight_a2 : Int32} {v_fright_a2 : Int32} {v_age_a2 : Int32} {v_asked_a2 : Nat → Int32} {v_weight_a3 : Int32} {v_fright_a3 : Int32} {v_age_a3 : Int32} {v_asked_a3 : Nat → Int32} {v_weight_a4 : Int32} {v_fright_a4 : Int32} {v_age_a4 : Int32} {v_asked_a4 : Nat → Int32} {v_many : Int32} {v_pets : Int32} {v_last : Int32} {v_seed : Int32} {v_weight : Int32} {v_fright : Int32} {v_age : Int32} {v_asked : Nat → Int32} {v_homes : Nat → Option Nat} {v_marks : Nat → Int32} {v_had : Nat → Int32} {v_allergic : Nat → Int32} {v_deaths : Nat → Int32} {u_weight : Int32} {u_fright : Int32} {u_age : Int32} {u_asked : Nat → Int32} {u_weight2 : Int32} {u_fright2 : Int32} {u_age2 : Int32} {u_asked2 : Nat → Int32} : mergeAt (xW aT ad v_latestFault v_died v_leastWeight v_noticedBy v_noticed v_orderDied v_orderLeast v_imaged v_shelves v_refusals v_ran v_bodies v_tweight v_tfright v_tage v_tasked v_told v_bestRow v_weight_a1 v_fright_a1 v_age_a1 v_asked_a1 v_weight_a2 v_fright_a2 v_age_a2 v_asked_a2 v_weight_a3 v_fright_a3 v_age_a3 v_asked_a3 v_weight_a4 v_fright_a4 v_age_a4 v_asked_a4 v_many v_pets v_last v_seed v_weight v_fright v_age v_asked v_homes v_marks v_had v_allergic v_deaths) [16, 17, 19, 20] (ppW aT (fun i => ad (if i < 2 then 16 + i else 19 + (i - 2))) u_weight u_fright u_age u_asked u_weight2 u_fright2 u_age2 u_asked2) = (xW aT ad v_latestFault v_died v_leastWeight v_noticedBy v_noticed v_orderDied v_orderLeast v_imaged v_shelves v_refusals v_ran v_bodies v_tweight v_tfright v_tage v_tasked v_told v_bestRow v_weight_a1 v_fright_a1 v_age_a1 v_asked_a1 v_weight_a2 v_fright_a2 v_age_a2 v_asked_a2 v_weight_a3 v_fright_a3 v_age_a3 v_asked_a3 u_weight u_fright u_age u_asked v_many v_pets v_last v_seed u_weight2 u_fright2 u_age2 u_asked2 v_homes v_marks v_had v_allergic v_deaths) := rfl
theorem sub_xW_ppW_16_19 {aT : Nat → ClassId} {ad : Nat → Nat} {v_latestFault : Int32} {v_died : Int32} {v_leastWeight : Int32} {v_noticedBy : Int32} {v_noticed : Int32} {v_orderDied : Int32} {v_orderLeast : Int32} {v_imaged : Option Nat} {v_shelves : Nat → Option Nat} {v_refusals : Nat → Int32} {v_ran : Int32} {v_bodies : Nat → Int32} {v_tweight : Int32} {v_tfright : Int32} {v_tage : Int32} {v_tasked : Nat → Int32} {v_told : Nat → Int32} {v_bestRow : Nat → Int32} {v_weight_a1 : Int32} {v_fright_a1 : Int32} {v_age_a1 : Int32} {v_asked_a1 : Nat → Int32} {v_weight_a2 : Int32} {v_fright_a2 : Int32} {v_age_a2 : Int32} {v_asked_a2 : Nat → Int32} {v_weight_a3 : Int32} {v_fright_a3 : Int32} {v_age_a3 : Int32} {v_asked_a3 : Nat → Int32} {v_weight_a4 : Int32} {v_fright_a4 : Int32} {v_age_a4 : Int32} {v_asked_a4 : Nat → Int32} {v_many : Int32} {v_pets : Int32} {v_last : Int32} {v_seed : Int32} {v_weight : Int32} {v_fright : Int32} {v_age : Int32} {v_asked : Nat → Int32} {v_homes : Nat → Option Nat} {v_marks : Nat → Int32} {v_had : Nat → Int32} {v_allergic : Nat → Int32} {v_deaths : Nat → Int32} : ([16, 17, 19, 20] : List Nat).filterMap (fun i => (xW aT ad v_latestFault v_died v_leastWeight v_noticedBy v_noticed v_orderDied v_orderLeast v_imaged v_shelves v_refusals v_ran v_bodies v_tweight v_tfright v_tage v_tasked v_told v_bestRow v_weight_a1 v_fright_a1 v_age_a1 v_asked_a1 v_weight_a2 v_fright_a2 v_age_a2 v_asked_a2 v_weight_a3 v_fright_a3 v_age_a3 v_asked_a3 v_weight_a4 v_fright_a4 v_age_a4 v_asked_a4 v_many v_pets v_last v_seed v_weight v_fright v_age v_asked v_homes v_marks v_had v_allergic v_deaths)[i]?) = (ppW aT (fun i => ad (if i < 2 then 16 + i else 19 + (i - 2))) v_weight_a4 v_fright_a4 v_age_a4 v_asked_a4 v_weight v_fright v_age v_asked) := rfl
theorem mg_xW_pW_16 {aT : Nat → ClassId} {ad : Nat → Nat} {v_latestFault : Int32} {v_died : Int32} {v_leastWeight : Int32} {v_noticedBy : Int32} {v_noticed : Int32} {v_orderDied : Int32} {v_orderLeast : Int32} {v_imaged : Option Nat} {v_shelves : Nat → Option Nat} {v_refusals : Nat → Int32} {v_ran : Int32} {v_bodies : Nat → Int32} {v_tweight : Int32} {v_tfright : Int32} {v_tage : Int32} {v_tasked : Nat → Int32} {v_told : Nat → Int32} {v_bestRow : Nat → Int32} {v_weight_a1 : Int32} {v_fright_a1 : Int32} {v_age_a1 : Int32} {v_asked_a1 : Nat → Int32} {v_weight_a2 : Int32} {v_fright_a2 : Int32} {v_age_a2 : Int32} {v_asked_a2 : Nat → Int32} {v_weight_a3 : Int32} {v_fright_a3 : Int32} {v_age_a3 : Int32} {v_asked_a3 : Nat → Int32} {v_weight_a4 : Int32} {v_fright_a4 : Int32} {v_age_a4 : Int32} {v_asked_a4 : Nat → Int32} {v_many : Int32} {v_pets : Int32} {v_last : Int32} {v_seed : Int32} {v_weight : Int32} {v_fright : Int32} {v_age : Int32} {v_asked : Nat → Int32} {v_homes : Nat → Option Nat} {v_marks : Nat → Int32} {v_had : Nat → Int32} {v_allergic : Nat → Int32} {v_deaths : Nat → Int32} {u_weight : Int32} {u_fright : Int32} {u_age : Int32} {u_asked : Nat → Int32} : mergeAt (xW aT ad v_latestFault v_died v_leastWeight v_noticedBy v_noticed v_orderDied v_orderLeast v_imaged v_shelves v_refusals v_ran v_bodies v_tweight v_tfright v_tage v_tasked v_told v_bestRow v_weight_a1 v_fright_a1 v_age_a1 v_asked_a1 v_weight_a2 v_fright_a2 v_age_a2 v_asked_a2 v_weight_a3 v_fright_a3 v_age_a3 v_asked_a3 v_weight_a4 v_fright_a4 v_age_a4 v_asked_a4 v_many v_pets v_last v_seed v_weight v_fright v_age v_asked v_homes v_marks v_had v_allergic v_deaths) [16, 17] (pW aT (fun i => ad (16 + i)) u_weight u_fright u_age u_asked) = (xW aT ad v_latestFault v_died v_leastWeight v_noticedBy v_noticed v_orderDied v_orderLeast v_imaged v_shelves v_refusals v_ran v_bodies v_tweight v_tfright v_tage v_tasked v_told v_bestRow v_weight_a1 v_fright_a1 v_age_a1 v_asked_a1 v_weight_a2 v_fright_a2 v_age_a2 v_asked_a2 v_weight_a3 v_fright_a3 v_age_a3 v_asked_a3 u_weight u_fright u_age u_asked v_many v_pets v_last v_seed v_weight v_fright v_age v_asked v_homes v_marks v_had v_allergic v_deaths) := rfl
theorem sub_xW_pW_16 {aT : Nat → ClassId} {ad : Nat → Nat} {v_latestFault : Int32} {v_died : Int32} {v_leastWeight : Int32} {v_noticedBy : Int32} {v_noticed : Int32} {v_orderDied : Int32} {v_orderLeast : Int32} {v_imaged : Option Nat} {v_shelves : Nat → Option Nat} {v_refusals : Nat → Int32} {v_ran : Int32} {v_bodies : Nat → Int32} {v_tweight : Int32} {v_tfright : Int32} {v_tage : Int32} {v_tasked : Nat → Int32} {v_told : Nat → Int32} {v_bestRow : Nat → Int32} {v_weight_a1 : Int32} {v_fright_a1 : Int32} {v_age_a1 : Int32} {v_asked_a1 : Nat → Int32} {v_weight_a2 : Int32} {v_fright_a2 : Int32} {v_age_a2 : Int32} {v_asked_a2 : Nat → Int32} {v_weight_a3 : Int32} {v_fright_a3 : Int32} {v_age_a3 : Int32} {v_asked_a3 : Nat → Int32} {v_weight_a4 : Int32} {v_fright_a4 : Int32} {v_age_a4 : Int32} {v_asked_a4 : Nat → Int32} {v_many : Int32} {v_pets : Int32} {v_last : Int32} {v_seed : Int32} {v_weight : Int32} {v_fright : Int32} {v_age : Int32} {v_asked : Nat → Int32} {v_homes : Nat → Option Nat} {v_marks : Nat → Int32} {v_had : Nat → Int32} {v_allergic : Nat → Int32} {v_deaths : Nat → Int32} : ([16, 17] : List Nat).filterMap (fun i => (xW aT ad v_latestFault v_died v_leastWeight v_noticedBy v_noticed v_orderDied v_orderLeast v_imaged v_shelves v_refusals v_ran v_bodies v_tweight v_tfright v_tage v_tasked v_told v_bestRow v_weight_a1 v_fright_a1 v_age_a1 v_asked_a1 v_weight_a2 v_fright_a2 v_age_a2 v_asked_a2 v_weight_a3 v_fright_a3 v_age_a3 v_asked_a3 v_weight_a4 v_fright_a4 v_age_a4 v_asked_a4 v_many v_pets v_last v_seed v_weight v_fright v_age v_asked v_homes v_marks v_had v_allergic v_deaths)[i]?) = (pW aT (fun i => ad (16 + i)) v_weight_a4 v_fright_a4 v_age_a4 v_asked_a4) := rfl
def sC_HW_deathsIn_10_0 (p3 : Int32) : Option (Int32) :=
  some 0
set_option maxHeartbeats 4000000 in
theorem metC_HW_deathsIn_10_0 (l : Launch) (G : kG) (ad : Nat → Nat) (pl : va_W) (v_latestFault : Int32) (v_died : Int32) (v_leastWeight : Int32) (v_noticedBy : Int32) (v_noticed : Int32) (v_orderDied : Int32) (v_orderLeast : Int32) (v_imaged : Option Nat) (v_shelves : Nat → Option Nat) (v_refusals : Nat → Int32) (v_ran : Int32) (v_bodies : Nat → Int32) (v_tweight : Int32) (v_tfright : Int32) (v_tage : Int32) (v_tasked : Nat → Int32) (v_told : Nat → Int32) (v_bestRow : Nat → Int32) (v_weight_a1 : Int32) (v_fright_a1 : Int32) (v_age_a1 : Int32) (v_asked_a1 : Nat → Int32) (v_weight_a2 : Int32) (v_fright_a2 : Int32) (v_age_a2 : Int32) (v_asked_a2 : Nat → Int32) (v_weight_a3 : Int32) (v_fright_a3 : Int32) (v_age_a3 : Int32) (v_asked_a3 : Nat → Int32) (v_weight_a4 : Int32) (v_fright_a4 : Int32) (v_age_a4 : Int32) (v_asked_a4 : Nat → Int32) (v_many : Int32) (v_pets : Int32) (v_last : Int32) (v_seed : Int32) (v_weight : Int32) (v_fright : Int32) (v_age : Int32) (v_asked : Nat → Int32) (v_homes : Nat → Option Nat) (v_marks : Nat → Int32) (v_had : Nat → Int32) (v_allergic : Nat → Int32) (v_deaths : Nat → Int32) (p3 : Int32) (res : Int32) (hE : sC_HW_deathsIn_10_0 p3 = some res) : Met l yX0_deathsIn (ws_ yX0_deathsIn cX0_deathsIn 8 (some .int)) ({ frames := 0, cells := 0, slots := 0, locals := 0 } : Room) (nPc G (xW G.2 ad v_latestFault v_died v_leastWeight v_noticedBy v_noticed v_orderDied v_orderLeast v_imaged v_shelves v_refusals v_ran v_bodies v_tweight v_tfright v_tage v_tasked v_told v_bestRow v_weight_a1 v_fright_a1 v_age_a1 v_asked_a1 v_weight_a2 v_fright_a2 v_age_a2 v_asked_a2 v_weight_a3 v_fright_a3 v_age_a3 v_asked_a3 v_weight_a4 v_fright_a4 v_age_a4 v_asked_a4 v_many v_pets v_last v_seed v_weight v_fright v_age v_asked v_homes v_marks v_had v_allergic v_deaths) pl (xWV ad) [.ref (ad 0), .ref (ad 10), .int 0, .int p3]) (nQc G (xW G.2 ad v_latestFault v_died v_leastWeight v_noticedBy v_noticed v_orderDied v_orderLeast v_imaged v_shelves v_refusals v_ran v_bodies v_tweight v_tfright v_tage v_tasked v_told v_bestRow v_weight_a1 v_fright_a1 v_age_a1 v_asked_a1 v_weight_a2 v_fright_a2 v_age_a2 v_asked_a2 v_weight_a3 v_fright_a3 v_age_a3 v_asked_a3 v_weight_a4 v_fright_a4 v_age_a4 v_asked_a4 v_many v_pets v_last v_seed v_weight v_fright v_age v_asked v_homes v_marks v_had v_allergic v_deaths) (xWV ad) (some (.int res))) 0 0 (nA (xWV ad)) := by
  refine n_ofW (own := RX0) (by decide) rfl (Nat.le_of_ble_eq_true rfl) ?_
  intro p e s m args below meth c ls C hml hP hS hl hr hlocks
  have hl : lv_has ls 8 [(0, .ref (ad 0)), (1, .ref (ad 10)), (2, .int 0), (3, .int p3)] := hl
  obtain ⟨Q, hQ⟩ : ∃ Q, Q = MQ below (nQc G (xW G.2 ad v_latestFault v_died v_leastWeight v_noticedBy v_noticed v_orderDied v_orderLeast v_imaged v_shelves v_refusals v_ran v_bodies v_tweight v_tfright v_tage v_tasked v_told v_bestRow v_weight_a1 v_fright_a1 v_age_a1 v_asked_a1 v_weight_a2 v_fright_a2 v_age_a2 v_asked_a2 v_weight_a3 v_fright_a3 v_age_a3 v_asked_a3 v_weight_a4 v_fright_a4 v_age_a4 v_asked_a4 v_many v_pets v_last v_seed v_weight v_fright v_age v_asked v_homes v_marks v_had v_allergic v_deaths) (xWV ad) (some (.int res))) args s 0 0 (nA (xWV ad)) := ⟨_, rfl⟩
  rw [← hQ]
  have hret : ∀ (pc : Nat) (ls : Array Slot) (H : Heap) (locs : List Loc), decode cX0_deathsIn pc = .ok (.ireturn, 1) → va_P G.1 vwCl (xW G.2 ad v_latestFault v_died v_leastWeight v_noticedBy v_noticed v_orderDied v_orderLeast v_imaged v_shelves v_refusals v_ran v_bodies v_tweight v_tfright v_tage v_tasked v_told v_bestRow v_weight_a1 v_fright_a1 v_age_a1 v_asked_a1 v_weight_a2 v_fright_a2 v_age_a2 v_asked_a2 v_weight_a3 v_fright_a3 v_age_a3 v_asked_a3 v_weight_a4 v_fright_a4 v_age_a4 v_asked_a4 v_many v_pets v_last v_seed v_weight v_fright v_age v_asked v_homes v_marks v_had v_allergic v_deaths) H → va_S (nA (xWV ad)) s.heap H locs → W p l e ({ frames := 0, cells := 0, slots := 0, locals := 0 } : Room) s m args below meth c H locs 0 0 Q (F0 m pc ls [(.int res)]) := by
    intro pc ls H locs hd hP hS
    rw [hQ]
    exact n_iret C hr hlocks hd hP hS
  clear hQ
  obtain ⟨H, hH⟩ : ∃ H, H = s.heap := ⟨_, rfl⟩
  obtain ⟨locs, hlo⟩ : ∃ locs : List Loc, locs = [] := ⟨_, rfl⟩
  have hP : va_P G.1 vwCl (xW G.2 ad v_latestFault v_died v_leastWeight v_noticedBy v_noticed v_orderDied v_orderLeast v_imaged v_shelves v_refusals v_ran v_bodies v_tweight v_tfright v_tage v_tasked v_told v_bestRow v_weight_a1 v_fright_a1 v_age_a1 v_asked_a1 v_weight_a2 v_fright_a2 v_age_a2 v_asked_a2 v_weight_a3 v_fright_a3 v_age_a3 v_asked_a3 v_weight_a4 v_fright_a4 v_age_a4 v_asked_a4 v_many v_pets v_last v_seed v_weight v_fright v_age v_asked v_homes v_marks v_had v_allergic v_deaths) H := by rw [hH]; exact hP
  have hS : va_S (nA (xWV ad)) s.heap H locs := by rw [hH, hlo]; exact hS
  suffices hZ : W p l e ({ frames := 0, cells := 0, slots := 0, locals := 0 } : Room) s m args below meth c H locs 0 0 Q (F0 m 0 ls []) by rw [hH, hlo] at hZ; exact hZ
  clear hH hlo
  unfold sC_HW_deathsIn_10_0 at hE
  refine lv_iload_n C.1 C.2.1 dX0_deathsIn_0 rfl (lv_at hl 2 rfl) ?_
  refine lv_if_ne (tgt := 6) C.1 C.2.1 dX0_deathsIn_1 (by decide) (fun c1 => absurd c1 (by decide)) (fun c1 => ?_)
  refine lv_iconst (v := 0) C.1 C.2.1 dX0_deathsIn_4 (by decide) ?_
  obtain rfl := Option.some.inj hE
  exact hret _ _ _ _ dX0_deathsIn_5 hP hS
def sC_HW_deathsIn_19_1_h12 (v_many : Int32) (v_allergic : Nat → Int32) : Nat → Int32 → Int32 → Option (Int32)
  | 0, _, _ => none
  | fuel + 1, x4, x5 =>
    if 1 ≤ x5 then
      some x4
    else
      (sC_Room_mayMany v_many v_allergic).bind fun r1302 =>
      sC_HW_deathsIn_19_1_h12 v_many v_allergic fuel (x4 * r1302) (x5 + 1)
def sC_HW_deathsIn_19_1_h42 (x3 : Int32) (x4 : Int32) (v_many : Int32) (v_weight : Int32) (v_fright : Int32) (v_age : Int32) (v_asked : Nat → Int32) (v_allergic : Nat → Int32) (hk : Nat → Nat) (hb : Nat → Int32) : Nat → Int32 → Int32 → Int32 → Int32 → Int32 → (Nat → Int32) → Option (Int32 × Int32 × Int32 × Int32 × (Nat → Int32))
  | 0, _, _, _, _, _, _ => none
  | fuel + 1, x5, x6, v_weight_a1, v_fright_a1, v_age_a1, v_asked_a1 =>
    if v_many ≤ x6 then
      some (x5, v_weight_a1, v_fright_a1, v_age_a1, v_asked_a1)
    else
      (sC_Room_may v_many v_allergic x6).bind fun r4302 =>
      @Option.bind (Int32 × Int32 × Int32 × Int32 × (Nat → Int32)) _ (
        if r4302 = 0 then
          some (x5, v_weight_a1, v_fright_a1, v_age_a1, v_asked_a1)
        else
          (sC_Pet_take v_weight_a1 v_fright_a1 v_age_a1 v_asked_a1 v_weight v_fright v_age v_asked).bind fun r4305 =>
          if gi x6 8 then
          if gm x6 v_many then
          (sC_Pet_week_H r4305.1 r4305.2.1 r4305.2.2.1 r4305.2.2.2 (hk (x6).toNatClampNeg) x6 (hb (x6).toNatClampNeg)).bind fun r4309 =>
          (sC_Pet_dies r4309.1 r4309.2.1 r4309.2.2 r4305.2.2.2).bind fun r4310 =>
          @Option.bind (Int32) _ (
            if r4310 = (-1) then
              (sC_HW_deathsIn_10_0 x3).bind fun r4315 =>
              some r4315
            else
              if x3 = (-1) then
                some x4
              else
                if x3 = x6 then
                  some x4
                else
                  some 0) fun u4312 =>
          some ((x5 + u4312), r4309.1, r4309.2.1, r4309.2.2, r4305.2.2.2)
          else none
          else none) fun u4304 =>
      sC_HW_deathsIn_19_1_h42 x3 x4 v_many v_weight v_fright v_age v_asked v_allergic hk hb fuel u4304.1 (x6 + 1) u4304.2.1 u4304.2.2.1 u4304.2.2.2.1 u4304.2.2.2.2
def sC_HW_deathsIn_19_1 (v_weight_a1 : Int32) (v_fright_a1 : Int32) (v_age_a1 : Int32) (v_asked_a1 : Nat → Int32) (v_many : Int32) (v_weight : Int32) (v_fright : Int32) (v_age : Int32) (v_asked : Nat → Int32) (v_homes : Nat → Option Nat) (v_allergic : Nat → Int32) (hk : Nat → Nat) (hb : Nat → Int32) (p3 : Int32) : Option (Int32 × Int32 × Int32 × Int32 × (Nat → Int32)) :=
  (sC_HW_deathsIn_19_1_h12 v_many v_allergic 2000 1 1).bind fun u2 =>
  (sC_HW_deathsIn_19_1_h42 p3 u2 v_many v_weight v_fright v_age v_asked v_allergic hk hb 2000 0 0 v_weight_a1 v_fright_a1 v_age_a1 v_asked_a1).bind fun u3 =>
  some (u3.1, u3.2.1, u3.2.2.1, u3.2.2.2.1, u3.2.2.2.2)
set_option maxHeartbeats 4000000 in
theorem wC_HW_deathsIn_19_1_h12 {p : Program} {l : Launch} {e : Env} {s : State} {m : MethodId} {args : Array Value} {below : List Frame} {meth : Method} {c : Code} {Q : State → Prop} {G : kG} {ad : Nat → Nat} {pl : va_W} {hk : Nat → Nat} {hb : Nat → Int32} {v_latestFault : Int32} {v_died : Int32} {v_leastWeight : Int32} {v_noticedBy : Int32} {v_noticed : Int32} {v_orderDied : Int32} {v_orderLeast : Int32} {v_imaged : Option Nat} {v_shelves : Nat → Option Nat} {v_refusals : Nat → Int32} {v_ran : Int32} {v_bodies : Nat → Int32} {v_tweight : Int32} {v_tfright : Int32} {v_tage : Int32} {v_tasked : Nat → Int32} {v_told : Nat → Int32} {v_bestRow : Nat → Int32} {v_weight_a1 : Int32} {v_fright_a1 : Int32} {v_age_a1 : Int32} {v_asked_a1 : Nat → Int32} {v_weight_a2 : Int32} {v_fright_a2 : Int32} {v_age_a2 : Int32} {v_asked_a2 : Nat → Int32} {v_weight_a3 : Int32} {v_fright_a3 : Int32} {v_age_a3 : Int32} {v_asked_a3 : Nat → Int32} {v_weight_a4 : Int32} {v_fright_a4 : Int32} {v_age_a4 : Int32} {v_asked_a4 : Nat → Int32} {v_many : Int32} {v_pets : Int32} {v_last : Int32} {v_seed : Int32} {v_weight : Int32} {v_fright : Int32} {v_age : Int32} {v_asked : Nat → Int32} {v_homes : Nat → Option Nat} {v_marks : Nat → Int32} {v_had : Nat → Int32} {v_allergic : Nat → Int32} {v_deaths : Nat → Int32} (C : nC p s m args c cX0_deathsIn RX0 G (xWV ad) pl (nA (xWV ad))) (hml : c.maxLocals = 8)  (hom : homOK v_homes v_many hk hb pl) (x3 : Int32) (res : Int32) :
    ∀ (fuel : Nat) (x4 : Int32) (x5 : Int32) (H : Heap) (locs : List Loc) (ls : Array Slot), sC_HW_deathsIn_19_1_h12 v_many v_allergic fuel x4 x5 = some res → va_P G.1 vwCl (xW G.2 ad v_latestFault v_died v_leastWeight v_noticedBy v_noticed v_orderDied v_orderLeast v_imaged v_shelves v_refusals v_ran v_bodies v_tweight v_tfright v_tage v_tasked v_told v_bestRow v_weight_a1 v_fright_a1 v_age_a1 v_asked_a1 v_weight_a2 v_fright_a2 v_age_a2 v_asked_a2 v_weight_a3 v_fright_a3 v_age_a3 v_asked_a3 v_weight_a4 v_fright_a4 v_age_a4 v_asked_a4 v_many v_pets v_last v_seed v_weight v_fright v_age v_asked v_homes v_marks v_had v_allergic v_deaths) H → va_S (nA (xWV ad)) s.heap H locs → lv_has ls 8 [(0, .ref (ad 0)), (1, .ref (ad 19)), (2, .int 1), (3, .int x3), (4, .int x4), (5, .int x5)] → (∀ (H : Heap) (locs : List Loc) (ls : Array Slot), va_P G.1 vwCl (xW G.2 ad v_latestFault v_died v_leastWeight v_noticedBy v_noticed v_orderDied v_orderLeast v_imaged v_shelves v_refusals v_ran v_bodies v_tweight v_tfright v_tage v_tasked v_told v_bestRow v_weight_a1 v_fright_a1 v_age_a1 v_asked_a1 v_weight_a2 v_fright_a2 v_age_a2 v_asked_a2 v_weight_a3 v_fright_a3 v_age_a3 v_asked_a3 v_weight_a4 v_fright_a4 v_age_a4 v_asked_a4 v_many v_pets v_last v_seed v_weight v_fright v_age v_asked v_homes v_marks v_had v_allergic v_deaths) H → va_S (nA (xWV ad)) s.heap H locs → lv_has ls 8 [(0, .ref (ad 0)), (1, .ref (ad 19)), (2, .int 1), (3, .int x3), (4, .int res)] → W p l e ({ frames := 5, cells := 0, slots := 0, locals := 106 } : Room) s m args below meth c H locs 0 0 Q (F0 m 36 ls [])) → W p l e ({ frames := 5, cells := 0, slots := 0, locals := 106 } : Room) s m args below meth c H locs 0 0 Q (F0 m 12 ls []) := by
  intro fuel
  induction fuel with
  | zero =>
    intro x4 x5 H locs ls hE
    exact it_n hE
  | succ fuel ih =>
    intro x4 x5 H locs ls hE hP hS hl hX
    rw [sC_HW_deathsIn_19_1_h12] at hE
    refine lv_iload C.1 C.2.1 dX0_deathsIn_12 (lv_at hl 5 rfl) ?_
    refine lv_iload_n C.1 C.2.1 dX0_deathsIn_14 rfl (lv_at hl 2 rfl) ?_
    refine lv_icmp_ge (tgt := 36) C.1 C.2.1 dX0_deathsIn_15 (by decide) (fun c1301 => ?_) (fun c1301 => ?_)
    · have hE := it_t c1301 hE
      obtain rfl := Option.some.inj hE
      exact hX H locs ls hP hS (lv_sub hl [0, 1, 2, 3, 4] rfl)
    · have hE := it_f c1301 hE
      refine lv_iload C.1 C.2.1 dX0_deathsIn_18 (lv_at hl 4 rfl) ?_
      refine lv_aload_n C.1 C.2.1 dX0_deathsIn_20 rfl (lv_at hl 0 rfl) ?_
      refine xWg_0_6 q244 C hP dX0_deathsIn_21 ?_
      obtain ⟨r1302, hr1302, hE⟩ := it_b hE
      refine n_after [18, 19, 20, 21, 22, 23, 24, 25] C.2.2.2.2.2.1 C.2.2.2.2.2.2.2.1 hP hS (va_runV (As := []) (rest := [.int x4]) ⟨C.1, C.2.1, hml, C.2.2.1, C.2.2.2.1⟩ (metC_Room_mayMany l G (fun i => ad (18 + i)) pl _ _ _ _ _ _ _ _ _ _ _ _ _   r1302 hr1302) (cwV (C := RX3) 0 C.2.2.2.1 (lw_V q1113 q1114 q1115 q83 q1116) rfl rfl rfl (by decide +kernel) ⟨Nat.le_of_ble_eq_true rfl, Nat.le_of_ble_eq_true rfl⟩) (n_preV C hP hS [18, 19, 20, 21, 22, 23, 24, 25] sub_xW_rW_18 (by decide) rfl (va_recv C.2.2.2.2.1 hP (ci := 12) (q0 := 18) rfl rfl)) rfl rfl hl.1 rfl (lv_room (Nat.le_of_ble_eq_true rfl)) dX0_deathsIn_24 ⟨Nat.le_refl _, Nat.le_refl _⟩) xW_av rfl rfl mg_xW_rW_18 (fun H locs hP hS => ?_)
      refine lv_imul C.1 C.2.1 dX0_deathsIn_27 ?_
      refine lv_istore (lv' := [(4, .int (x4 * r1302)), (0, .ref (ad 0)), (1, .ref (ad 19)), (2, .int 1), (3, .int x3), (5, .int x5)]) C.1 C.2.1 dX0_deathsIn_28 hl (by decide) rfl (fun ls hl => ?_)
      refine lv_iinc (v := (x5 + 1)) (lv' := [(5, .int (x5 + 1)), (4, .int (x4 * r1302)), (0, .ref (ad 0)), (1, .ref (ad 19)), (2, .int 1), (3, .int x3)]) C.1 C.2.1 dX0_deathsIn_30 hl (k := 5) rfl rfl (by decide) rfl (fun ls hl => ?_)
      refine lv_goto (tgt := 12) C.1 C.2.1 dX0_deathsIn_33 (by decide) ?_
      exact ih (x4 * r1302) (x5 + 1) _ _ _ hE hP hS (lv_sub hl [2, 3, 4, 5, 1, 0] rfl) hX
set_option maxHeartbeats 4000000 in
theorem wC_HW_deathsIn_19_1_h42 {p : Program} {l : Launch} {e : Env} {s : State} {m : MethodId} {args : Array Value} {below : List Frame} {meth : Method} {c : Code} {Q : State → Prop} {G : kG} {ad : Nat → Nat} {pl : va_W} {hk : Nat → Nat} {hb : Nat → Int32} {v_latestFault : Int32} {v_died : Int32} {v_leastWeight : Int32} {v_noticedBy : Int32} {v_noticed : Int32} {v_orderDied : Int32} {v_orderLeast : Int32} {v_imaged : Option Nat} {v_shelves : Nat → Option Nat} {v_refusals : Nat → Int32} {v_ran : Int32} {v_bodies : Nat → Int32} {v_tweight : Int32} {v_tfright : Int32} {v_tage : Int32} {v_tasked : Nat → Int32} {v_told : Nat → Int32} {v_bestRow : Nat → Int32} {v_weight_a2 : Int32} {v_fright_a2 : Int32} {v_age_a2 : Int32} {v_asked_a2 : Nat → Int32} {v_weight_a3 : Int32} {v_fright_a3 : Int32} {v_age_a3 : Int32} {v_asked_a3 : Nat → Int32} {v_weight_a4 : Int32} {v_fright_a4 : Int32} {v_age_a4 : Int32} {v_asked_a4 : Nat → Int32} {v_many : Int32} {v_pets : Int32} {v_last : Int32} {v_seed : Int32} {v_weight : Int32} {v_fright : Int32} {v_age : Int32} {v_asked : Nat → Int32} {v_homes : Nat → Option Nat} {v_marks : Nat → Int32} {v_had : Nat → Int32} {v_allergic : Nat → Int32} {v_deaths : Nat → Int32} (C : nC p s m args c cX0_deathsIn RX0 G (xWV ad) pl (nA (xWV ad))) (hml : c.maxLocals = 8)  (hom : homOK v_homes v_many hk hb pl) (x3 : Int32) (x4 : Int32) (res : Int32 × Int32 × Int32 × Int32 × (Nat → Int32)) :
    ∀ (fuel : Nat) (x5 : Int32) (x6 : Int32) (v_weight_a1 : Int32) (v_fright_a1 : Int32) (v_age_a1 : Int32) (v_asked_a1 : Nat → Int32) (H : Heap) (locs : List Loc) (ls : Array Slot), sC_HW_deathsIn_19_1_h42 x3 x4 v_many v_weight v_fright v_age v_asked v_allergic hk hb fuel x5 x6 v_weight_a1 v_fright_a1 v_age_a1 v_asked_a1 = some res → va_P G.1 vwCl (xW G.2 ad v_latestFault v_died v_leastWeight v_noticedBy v_noticed v_orderDied v_orderLeast v_imaged v_shelves v_refusals v_ran v_bodies v_tweight v_tfright v_tage v_tasked v_told v_bestRow v_weight_a1 v_fright_a1 v_age_a1 v_asked_a1 v_weight_a2 v_fright_a2 v_age_a2 v_asked_a2 v_weight_a3 v_fright_a3 v_age_a3 v_asked_a3 v_weight_a4 v_fright_a4 v_age_a4 v_asked_a4 v_many v_pets v_last v_seed v_weight v_fright v_age v_asked v_homes v_marks v_had v_allergic v_deaths) H → va_S (nA (xWV ad)) s.heap H locs → lv_has ls 8 [(0, .ref (ad 0)), (1, .ref (ad 19)), (2, .int 1), (3, .int x3), (4, .int x4), (5, .int x5), (6, .int x6)] → (∀ (H : Heap) (locs : List Loc) (ls : Array Slot), va_P G.1 vwCl (xW G.2 ad v_latestFault v_died v_leastWeight v_noticedBy v_noticed v_orderDied v_orderLeast v_imaged v_shelves v_refusals v_ran v_bodies v_tweight v_tfright v_tage v_tasked v_told v_bestRow res.2.1 res.2.2.1 res.2.2.2.1 res.2.2.2.2 v_weight_a2 v_fright_a2 v_age_a2 v_asked_a2 v_weight_a3 v_fright_a3 v_age_a3 v_asked_a3 v_weight_a4 v_fright_a4 v_age_a4 v_asked_a4 v_many v_pets v_last v_seed v_weight v_fright v_age v_asked v_homes v_marks v_had v_allergic v_deaths) H → va_S (nA (xWV ad)) s.heap H locs → lv_has ls 8 [(5, .int res.1)] → W p l e ({ frames := 5, cells := 0, slots := 0, locals := 106 } : Room) s m args below meth c H locs 0 0 Q (F0 m 143 ls [])) → W p l e ({ frames := 5, cells := 0, slots := 0, locals := 106 } : Room) s m args below meth c H locs 0 0 Q (F0 m 42 ls []) := by
  intro fuel
  induction fuel with
  | zero =>
    intro x5 x6 v_weight_a1 v_fright_a1 v_age_a1 v_asked_a1 H locs ls hE
    exact it_n hE
  | succ fuel ih =>
    intro x5 x6 v_weight_a1 v_fright_a1 v_age_a1 v_asked_a1 H locs ls hE hP hS hl hX
    rw [sC_HW_deathsIn_19_1_h42] at hE
    refine lv_iload C.1 C.2.1 dX0_deathsIn_42 (lv_at hl 6 rfl) ?_
    refine lv_aload_n C.1 C.2.1 dX0_deathsIn_44 rfl (lv_at hl 0 rfl) ?_
    refine xWg_0_6 q244 C hP dX0_deathsIn_45 ?_
    refine xWg_18_0 q182 C hP dX0_deathsIn_48 ?_
    refine lv_icmp_ge (tgt := 143) C.1 C.2.1 dX0_deathsIn_51 (by decide) (fun c4301 => ?_) (fun c4301 => ?_)
    · have hE := it_t c4301 hE
      obtain rfl := Option.some.inj hE
      exact hX H locs ls hP hS (lv_sub hl [5] rfl)
    · have hE := it_f c4301 hE
      refine lv_aload_n C.1 C.2.1 dX0_deathsIn_54 rfl (lv_at hl 0 rfl) ?_
      refine xWg_0_6 q244 C hP dX0_deathsIn_55 ?_
      refine lv_iload C.1 C.2.1 dX0_deathsIn_58 (lv_at hl 6 rfl) ?_
      obtain ⟨r4302, hr4302, hE⟩ := it_b hE
      refine n_after [18, 19, 20, 21, 22, 23, 24, 25] C.2.2.2.2.2.1 C.2.2.2.2.2.2.2.1 hP hS (va_runV (As := [.int x6]) (rest := []) ⟨C.1, C.2.1, hml, C.2.2.1, C.2.2.2.1⟩ (metC_Room_may l G (fun i => ad (18 + i)) pl _ _ _ _ _ _ _ _ _ _ _ _ _ x6  r4302 hr4302) (cwV (C := RX3) 1 C.2.2.2.1 (lw_V q1067 q972 q973 q83 q974) rfl rfl rfl (by decide +kernel) ⟨Nat.le_of_ble_eq_true rfl, Nat.le_of_ble_eq_true rfl⟩) (n_preV C hP hS [18, 19, 20, 21, 22, 23, 24, 25] sub_xW_rW_18 (by decide) rfl (va_recv C.2.2.2.2.1 hP (ci := 12) (q0 := 18) rfl rfl)) rfl rfl hl.1 rfl (lv_room (Nat.le_of_ble_eq_true rfl)) dX0_deathsIn_60 ⟨Nat.le_refl _, Nat.le_refl _⟩) xW_av rfl rfl mg_xW_rW_18 (fun H locs hP hS => ?_)
      obtain ⟨u4304, hR, hE⟩ := it_b hE
      have hJ137u4304 : ∀ (H : Heap) (locs : List Loc) (ls : Array Slot), va_P G.1 vwCl (xW G.2 ad v_latestFault v_died v_leastWeight v_noticedBy v_noticed v_orderDied v_orderLeast v_imaged v_shelves v_refusals v_ran v_bodies v_tweight v_tfright v_tage v_tasked v_told v_bestRow u4304.2.1 u4304.2.2.1 u4304.2.2.2.1 u4304.2.2.2.2 v_weight_a2 v_fright_a2 v_age_a2 v_asked_a2 v_weight_a3 v_fright_a3 v_age_a3 v_asked_a3 v_weight_a4 v_fright_a4 v_age_a4 v_asked_a4 v_many v_pets v_last v_seed v_weight v_fright v_age v_asked v_homes v_marks v_had v_allergic v_deaths) H → va_S (nA (xWV ad)) s.heap H locs → lv_has ls 8 [(0, .ref (ad 0)), (1, .ref (ad 19)), (2, .int 1), (3, .int x3), (4, .int x4), (5, .int u4304.1), (6, .int x6)] → W p l e ({ frames := 5, cells := 0, slots := 0, locals := 106 } : Room) s m args below meth c H locs 0 0 Q (F0 m 137 ls []) := by
        intro H locs ls hP hS hl
        refine lv_iinc (v := (x6 + 1)) (lv' := [(6, .int (x6 + 1)), (0, .ref (ad 0)), (1, .ref (ad 19)), (2, .int 1), (3, .int x3), (4, .int x4), (5, .int u4304.1)]) C.1 C.2.1 dX0_deathsIn_137 hl (k := 6) rfl rfl (by decide) rfl (fun ls hl => ?_)
        refine lv_goto (tgt := 42) C.1 C.2.1 dX0_deathsIn_140 (by decide) ?_
        exact ih u4304.1 (x6 + 1) u4304.2.1 u4304.2.2.1 u4304.2.2.2.1 u4304.2.2.2.2 _ _ _ hE hP hS (lv_sub hl [1, 2, 3, 4, 5, 6, 0] rfl) hX
      have hE := hR
      refine lv_if_eq (tgt := 137) C.1 C.2.1 dX0_deathsIn_63 (by decide) (fun c4303 => ?_) (fun c4303 => ?_)
      · have hE := it_t c4303 hE
        obtain rfl := Option.some.inj hE
        exact hJ137u4304 H locs ls hP hS (lv_sub hl [0, 1, 2, 3, 4, 5, 6] rfl)
      · have hE := it_f c4303 hE
        refine lv_aload_n C.1 C.2.1 dX0_deathsIn_66 rfl (lv_at hl 0 rfl) ?_
        refine xWg_0_15 q253 C hP dX0_deathsIn_67 ?_
        refine lv_iload_n C.1 C.2.1 dX0_deathsIn_70 rfl (lv_at hl 2 rfl) ?_
        refine xWl_9 (v := some (ad 10)) C hP (gi_in (by decide)) rfl dX0_deathsIn_71 ?_
        refine lv_aload_n C.1 C.2.1 dX0_deathsIn_72 rfl (lv_at hl 1 rfl) ?_
        obtain ⟨r4305, hr4305, hE⟩ := it_b hE
        refine n_after [10, 11, 19, 20] C.2.2.2.2.2.1 C.2.2.2.2.2.2.2.1 hP hS (va_runV (As := [.ref (ad 19)]) (rest := []) ⟨C.1, C.2.1, hml, C.2.2.1, C.2.2.2.1⟩ (metC_Pet_take l G (fun i => ad (if i < 2 then 10 + i else 19 + (i - 2))) pl _ _ _ _ _ _ _ _   r4305 hr4305) (cwV (C := RX2) 1 C.2.2.2.1 (lw_V q1076 q796 q797 q82 q798) rfl rfl rfl (by decide +kernel) ⟨Nat.le_of_ble_eq_true rfl, Nat.le_of_ble_eq_true rfl⟩) (n_preV C hP hS [10, 11, 19, 20] sub_xW_ppW_10_19 (by decide) rfl (va_recv C.2.2.2.2.1 hP (ci := 11) (q0 := 10) rfl rfl)) rfl rfl hl.1 rfl (lv_room (Nat.le_of_ble_eq_true rfl)) dX0_deathsIn_73 ⟨Nat.le_refl _, Nat.le_refl _⟩) xW_av rfl rfl mg_xW_ppW_10_19 (fun H locs hP hS => ?_)
        refine lv_astore (lv' := [(7, .ref (ad 10)), (0, .ref (ad 0)), (1, .ref (ad 19)), (2, .int 1), (3, .int x3), (4, .int x4), (5, .int x5), (6, .int x6)]) C.1 C.2.1 dX0_deathsIn_76 hl (by decide) rfl (fun ls hl => ?_)
        refine lv_aload C.1 C.2.1 dX0_deathsIn_78 (lv_at hl 0 rfl) ?_
        refine lv_aload_n C.1 C.2.1 dX0_deathsIn_80 rfl (lv_at hl 1 rfl) ?_
        refine xWg_0_6 q244 C hP dX0_deathsIn_81 ?_
        refine xWg_18_5 q193 C hP dX0_deathsIn_84 ?_
        refine lv_iload C.1 C.2.1 dX0_deathsIn_87 (lv_at hl 7 rfl) ?_
        obtain ⟨g4306, hE⟩ := it_g hE
        obtain ⟨g4307, hE⟩ := it_g hE
        obtain ⟨q4308, hq43080, hq4308, hq43087⟩ := hom _ g4307
        refine xWl_21 (v := some q4308) C hP (gi_in g4306) hq43080 dX0_deathsIn_89 ?_
        obtain ⟨r4309, hr4309, hE⟩ := it_b hE
        refine n_after [10, 11] C.2.2.2.2.2.1 C.2.2.2.2.2.2.2.1 hP hS (va_runV (As := [.ref q4308]) (rest := []) ⟨C.1, C.2.1, hml, C.2.2.1, C.2.2.2.1⟩ (metC_Pet_week_H l G (fun i => ad (10 + i)) pl _ _ _ _ q4308 (hk (x6).toNatClampNeg) x6 (hb (x6).toNatClampNeg) hq43087 hq4308 r4309 hr4309) (cwV (C := RX2) 1 C.2.2.2.1 (lw_V q1082 q985 q986 q82 q987) rfl rfl rfl (by decide +kernel) ⟨Nat.le_of_ble_eq_true rfl, Nat.le_of_ble_eq_true rfl⟩) (n_preV C hP hS [10, 11] sub_xW_pW_10 (by decide) rfl (va_recv C.2.2.2.2.1 hP (ci := 11) (q0 := 10) rfl rfl)) rfl rfl hl.1 rfl (lv_room (Nat.le_of_ble_eq_true rfl)) dX0_deathsIn_90 ⟨Nat.le_refl _, Nat.le_refl _⟩) xW_av rfl rfl mg_xW_pW_10 (fun H locs hP hS => ?_)
        refine lv_iload C.1 C.2.1 dX0_deathsIn_93 (lv_at hl 6 rfl) ?_
        refine lv_aload C.1 C.2.1 dX0_deathsIn_95 (lv_at hl 0 rfl) ?_
        obtain ⟨r4310, hr4310, hE⟩ := it_b hE
        refine n_after [10, 11] C.2.2.2.2.2.1 C.2.2.2.2.2.2.2.1 hP hS (va_runV (As := []) (rest := [.int x5]) ⟨C.1, C.2.1, hml, C.2.2.1, C.2.2.2.1⟩ (metC_Pet_dies l G (fun i => ad (10 + i)) pl _ _ _ _   r4310 hr4310) (cwV (C := RX2) 0 C.2.2.2.1 (lw_V q1083 q1024 q1025 q82 q1026) rfl rfl rfl (by decide +kernel) ⟨Nat.le_of_ble_eq_true rfl, Nat.le_of_ble_eq_true rfl⟩) (n_preV C hP hS [10, 11] sub_xW_pW_10 (by decide) rfl (va_recv C.2.2.2.2.1 hP (ci := 11) (q0 := 10) rfl rfl)) rfl rfl hl.1 rfl (lv_room (Nat.le_of_ble_eq_true rfl)) dX0_deathsIn_97 ⟨Nat.le_refl _, Nat.le_refl _⟩) xW_av rfl rfl mg_xW_pW_10 (fun H locs hP hS => ?_)
        refine lv_iconst (v := (-1)) C.1 C.2.1 dX0_deathsIn_100 (by decide) ?_
        obtain ⟨u4312, hR, hE⟩ := it_b hE
        have hJ134u4312 : ∀ (H : Heap) (locs : List Loc) (ls : Array Slot), va_P G.1 vwCl (xW G.2 ad v_latestFault v_died v_leastWeight v_noticedBy v_noticed v_orderDied v_orderLeast v_imaged v_shelves v_refusals v_ran v_bodies v_tweight v_tfright v_tage v_tasked v_told v_bestRow r4309.1 r4309.2.1 r4309.2.2 r4305.2.2.2 v_weight_a2 v_fright_a2 v_age_a2 v_asked_a2 v_weight_a3 v_fright_a3 v_age_a3 v_asked_a3 v_weight_a4 v_fright_a4 v_age_a4 v_asked_a4 v_many v_pets v_last v_seed v_weight v_fright v_age v_asked v_homes v_marks v_had v_allergic v_deaths) H → va_S (nA (xWV ad)) s.heap H locs → lv_has ls 8 [(0, .ref (ad 0)), (1, .ref (ad 19)), (2, .int 1), (3, .int x3), (4, .int x4), (6, .int x6)] → W p l e ({ frames := 5, cells := 0, slots := 0, locals := 106 } : Room) s m args below meth c H locs 0 0 Q (F0 m 134 ls [.int u4312, .int x5]) := by
          intro H locs ls hP hS hl
          refine lv_iadd C.1 C.2.1 dX0_deathsIn_134 ?_
          refine lv_istore (lv' := [(5, .int (x5 + u4312)), (0, .ref (ad 0)), (1, .ref (ad 19)), (2, .int 1), (3, .int x3), (4, .int x4), (6, .int x6)]) C.1 C.2.1 dX0_deathsIn_135 hl (by decide) rfl (fun ls hl => ?_)
          obtain rfl := Option.some.inj hE
          exact hJ137u4304 H locs ls hP hS (lv_sub hl [1, 2, 3, 4, 5, 0, 6] rfl)
        have hE := hR
        refine lv_icmp_ne (tgt := 117) C.1 C.2.1 dX0_deathsIn_101 (by decide) (fun c4311 => ?_) (fun c4311 => ?_)
        · have hE := it_f c4311 hE
          refine lv_iload_n C.1 C.2.1 dX0_deathsIn_117 rfl (lv_at hl 4 rfl) ?_
          refine lv_iconst (v := (-1)) C.1 C.2.1 dX0_deathsIn_118 (by decide) ?_
          refine lv_icmp_eq (tgt := 128) C.1 C.2.1 dX0_deathsIn_119 (by decide) (fun c4313 => ?_) (fun c4313 => ?_)
          · have hE := it_t c4313 hE
            refine lv_iload C.1 C.2.1 dX0_deathsIn_128 (lv_at hl 5 rfl) ?_
            refine lv_goto (tgt := 134) C.1 C.2.1 dX0_deathsIn_130 (by decide) ?_
            obtain rfl := Option.some.inj hE
            exact hJ134u4312 H locs ls hP hS (lv_sub hl [1, 2, 3, 4, 5, 7] rfl)
          · have hE := it_f c4313 hE
            refine lv_iload_n C.1 C.2.1 dX0_deathsIn_122 rfl (lv_at hl 4 rfl) ?_
            refine lv_iload C.1 C.2.1 dX0_deathsIn_123 (lv_at hl 7 rfl) ?_
            refine lv_icmp_ne (tgt := 133) C.1 C.2.1 dX0_deathsIn_125 (by decide) (fun c4314 => ?_) (fun c4314 => ?_)
            · have hE := it_f c4314 hE
              refine lv_iconst (v := 0) C.1 C.2.1 dX0_deathsIn_133 (by decide) ?_
              obtain rfl := Option.some.inj hE
              exact hJ134u4312 H locs ls hP hS (lv_sub hl [1, 2, 3, 4, 5, 7] rfl)
            · have hE := it_t c4314 hE
              refine lv_iload C.1 C.2.1 dX0_deathsIn_128 (lv_at hl 5 rfl) ?_
              refine lv_goto (tgt := 134) C.1 C.2.1 dX0_deathsIn_130 (by decide) ?_
              obtain rfl := Option.some.inj hE
              exact hJ134u4312 H locs ls hP hS (lv_sub hl [1, 2, 3, 4, 5, 7] rfl)
        · have hE := it_t c4311 hE
          refine lv_aload_n C.1 C.2.1 dX0_deathsIn_104 rfl (lv_at hl 1 rfl) ?_
          refine lv_aload C.1 C.2.1 dX0_deathsIn_105 (lv_at hl 0 rfl) ?_
          refine lv_iload_n C.1 C.2.1 dX0_deathsIn_107 rfl (lv_at hl 3 rfl) ?_
          refine lv_iconst (v := 1) C.1 C.2.1 dX0_deathsIn_108 (by decide) ?_
          refine lv_isub C.1 C.2.1 dX0_deathsIn_109 ?_
          rw [show (1 : Int32) - 1 = 0 from by decide]
          refine lv_iload_n C.1 C.2.1 dX0_deathsIn_110 rfl (lv_at hl 4 rfl) ?_
          obtain ⟨r4315, hr4315, hE⟩ := it_b hE
          refine n_afterS C.2.2.2.2.2.2.2.1 hS (va_runV (As := [.ref (ad 10), .int 0, .int x3]) (rest := [.int x5]) ⟨C.1, C.2.1, hml, C.2.2.1, C.2.2.2.1⟩ (metC_HW_deathsIn_10_0 l G ad pl _ _ _ _ _ _ _ _ _ _ _ _ _ _ _ _ _ _ _ _ _ _ _ _ _ _ _ _ _ _ _ _ _ _ _ _ _ _ _ _ _ _ _ _ _ _ _ x3  r4315 hr4315) (cwV (C := RX0) 3 C.2.2.2.1 (lw_V q1154 q1156 qs28 q80 q1157) rfl rfl rfl (by decide +kernel) ⟨Nat.le_of_ble_eq_true rfl, Nat.le_of_ble_eq_true rfl⟩) (n_preV0 C hP hS (va_recv C.2.2.2.2.1 hP (ci := 16) (q0 := 0) rfl rfl)) rfl rfl hl.1 rfl (lv_room (Nat.le_of_ble_eq_true rfl)) dX0_deathsIn_111 ⟨Nat.le_refl _, Nat.le_refl _⟩) (fun H locs hP hS => ?_)
          refine lv_goto (tgt := 134) C.1 C.2.1 dX0_deathsIn_114 (by decide) ?_
          obtain rfl := Option.some.inj hE
          exact hJ134u4312 H locs ls hP hS (lv_sub hl [1, 2, 3, 4, 5, 7] rfl)
set_option maxHeartbeats 4000000 in
theorem metC_HW_deathsIn_19_1 (l : Launch) (G : kG) (ad : Nat → Nat) (pl : va_W) (hk : Nat → Nat) (hb : Nat → Int32) (v_latestFault : Int32) (v_died : Int32) (v_leastWeight : Int32) (v_noticedBy : Int32) (v_noticed : Int32) (v_orderDied : Int32) (v_orderLeast : Int32) (v_imaged : Option Nat) (v_shelves : Nat → Option Nat) (v_refusals : Nat → Int32) (v_ran : Int32) (v_bodies : Nat → Int32) (v_tweight : Int32) (v_tfright : Int32) (v_tage : Int32) (v_tasked : Nat → Int32) (v_told : Nat → Int32) (v_bestRow : Nat → Int32) (v_weight_a1 : Int32) (v_fright_a1 : Int32) (v_age_a1 : Int32) (v_asked_a1 : Nat → Int32) (v_weight_a2 : Int32) (v_fright_a2 : Int32) (v_age_a2 : Int32) (v_asked_a2 : Nat → Int32) (v_weight_a3 : Int32) (v_fright_a3 : Int32) (v_age_a3 : Int32) (v_asked_a3 : Nat → Int32) (v_weight_a4 : Int32) (v_fright_a4 : Int32) (v_age_a4 : Int32) (v_asked_a4 : Nat → Int32) (v_many : Int32) (v_pets : Int32) (v_last : Int32) (v_seed : Int32) (v_weight : Int32) (v_fright : Int32) (v_age : Int32) (v_asked : Nat → Int32) (v_homes : Nat → Option Nat) (v_marks : Nat → Int32) (v_had : Nat → Int32) (v_allergic : Nat → Int32) (v_deaths : Nat → Int32) (hom : homOK v_homes v_many hk hb pl) (p3 : Int32) (res : Int32 × Int32 × Int32 × Int32 × (Nat → Int32)) (hE : sC_HW_deathsIn_19_1 v_weight_a1 v_fright_a1 v_age_a1 v_asked_a1 v_many v_weight v_fright v_age v_asked v_homes v_allergic hk hb p3 = some res) : Met l yX0_deathsIn (ws_ yX0_deathsIn cX0_deathsIn 8 (some .int)) ({ frames := 5, cells := 0, slots := 0, locals := 106 } : Room) (nPc G (xW G.2 ad v_latestFault v_died v_leastWeight v_noticedBy v_noticed v_orderDied v_orderLeast v_imaged v_shelves v_refusals v_ran v_bodies v_tweight v_tfright v_tage v_tasked v_told v_bestRow v_weight_a1 v_fright_a1 v_age_a1 v_asked_a1 v_weight_a2 v_fright_a2 v_age_a2 v_asked_a2 v_weight_a3 v_fright_a3 v_age_a3 v_asked_a3 v_weight_a4 v_fright_a4 v_age_a4 v_asked_a4 v_many v_pets v_last v_seed v_weight v_fright v_age v_asked v_homes v_marks v_had v_allergic v_deaths) pl (xWV ad) [.ref (ad 0), .ref (ad 19), .int 1, .int p3]) (nQc G (xW G.2 ad v_latestFault v_died v_leastWeight v_noticedBy v_noticed v_orderDied v_orderLeast v_imaged v_shelves v_refusals v_ran v_bodies v_tweight v_tfright v_tage v_tasked v_told v_bestRow res.2.1 res.2.2.1 res.2.2.2.1 res.2.2.2.2 v_weight_a2 v_fright_a2 v_age_a2 v_asked_a2 v_weight_a3 v_fright_a3 v_age_a3 v_asked_a3 v_weight_a4 v_fright_a4 v_age_a4 v_asked_a4 v_many v_pets v_last v_seed v_weight v_fright v_age v_asked v_homes v_marks v_had v_allergic v_deaths) (xWV ad) (some (.int res.1))) 0 0 (nA (xWV ad)) := by
  refine n_ofW (own := RX0) (by decide) rfl (Nat.le_of_ble_eq_true rfl) ?_
  intro p e s m args below meth c ls C hml hP hS hl hr hlocks
  have hl : lv_has ls 8 [(0, .ref (ad 0)), (1, .ref (ad 19)), (2, .int 1), (3, .int p3)] := hl
  obtain ⟨Q, hQ⟩ : ∃ Q, Q = MQ below (nQc G (xW G.2 ad v_latestFault v_died v_leastWeight v_noticedBy v_noticed v_orderDied v_orderLeast v_imaged v_shelves v_refusals v_ran v_bodies v_tweight v_tfright v_tage v_tasked v_told v_bestRow res.2.1 res.2.2.1 res.2.2.2.1 res.2.2.2.2 v_weight_a2 v_fright_a2 v_age_a2 v_asked_a2 v_weight_a3 v_fright_a3 v_age_a3 v_asked_a3 v_weight_a4 v_fright_a4 v_age_a4 v_asked_a4 v_many v_pets v_last v_seed v_weight v_fright v_age v_asked v_homes v_marks v_had v_allergic v_deaths) (xWV ad) (some (.int res.1))) args s 0 0 (nA (xWV ad)) := ⟨_, rfl⟩
  rw [← hQ]
  have hret : ∀ (pc : Nat) (ls : Array Slot) (H : Heap) (locs : List Loc), decode cX0_deathsIn pc = .ok (.ireturn, 1) → va_P G.1 vwCl (xW G.2 ad v_latestFault v_died v_leastWeight v_noticedBy v_noticed v_orderDied v_orderLeast v_imaged v_shelves v_refusals v_ran v_bodies v_tweight v_tfright v_tage v_tasked v_told v_bestRow res.2.1 res.2.2.1 res.2.2.2.1 res.2.2.2.2 v_weight_a2 v_fright_a2 v_age_a2 v_asked_a2 v_weight_a3 v_fright_a3 v_age_a3 v_asked_a3 v_weight_a4 v_fright_a4 v_age_a4 v_asked_a4 v_many v_pets v_last v_seed v_weight v_fright v_age v_asked v_homes v_marks v_had v_allergic v_deaths) H → va_S (nA (xWV ad)) s.heap H locs → W p l e ({ frames := 5, cells := 0, slots := 0, locals := 106 } : Room) s m args below meth c H locs 0 0 Q (F0 m pc ls [(.int res.1)]) := by
    intro pc ls H locs hd hP hS
    rw [hQ]
    exact n_iret C hr hlocks hd hP hS
  clear hQ
  obtain ⟨H, hH⟩ : ∃ H, H = s.heap := ⟨_, rfl⟩
  obtain ⟨locs, hlo⟩ : ∃ locs : List Loc, locs = [] := ⟨_, rfl⟩
  have hP : va_P G.1 vwCl (xW G.2 ad v_latestFault v_died v_leastWeight v_noticedBy v_noticed v_orderDied v_orderLeast v_imaged v_shelves v_refusals v_ran v_bodies v_tweight v_tfright v_tage v_tasked v_told v_bestRow v_weight_a1 v_fright_a1 v_age_a1 v_asked_a1 v_weight_a2 v_fright_a2 v_age_a2 v_asked_a2 v_weight_a3 v_fright_a3 v_age_a3 v_asked_a3 v_weight_a4 v_fright_a4 v_age_a4 v_asked_a4 v_many v_pets v_last v_seed v_weight v_fright v_age v_asked v_homes v_marks v_had v_allergic v_deaths) H := by rw [hH]; exact hP
  have hS : va_S (nA (xWV ad)) s.heap H locs := by rw [hH, hlo]; exact hS
  suffices hZ : W p l e ({ frames := 5, cells := 0, slots := 0, locals := 106 } : Room) s m args below meth c H locs 0 0 Q (F0 m 0 ls []) by rw [hH, hlo] at hZ; exact hZ
  clear hH hlo
  unfold sC_HW_deathsIn_19_1 at hE
  refine lv_iload_n C.1 C.2.1 dX0_deathsIn_0 rfl (lv_at hl 2 rfl) ?_
  refine lv_if_ne (tgt := 6) C.1 C.2.1 dX0_deathsIn_1 (by decide) (fun c1 => ?_) (fun c1 => absurd c1 (by decide))
  refine lv_iconst (v := 1) C.1 C.2.1 dX0_deathsIn_6 (by decide) ?_
  refine lv_istore (lv' := [(4, .int 1), (0, .ref (ad 0)), (1, .ref (ad 19)), (2, .int 1), (3, .int p3)]) C.1 C.2.1 dX0_deathsIn_7 hl (by decide) rfl (fun ls hl => ?_)
  refine lv_iconst (v := 1) C.1 C.2.1 dX0_deathsIn_9 (by decide) ?_
  refine lv_istore (lv' := [(5, .int 1), (4, .int 1), (0, .ref (ad 0)), (1, .ref (ad 19)), (2, .int 1), (3, .int p3)]) C.1 C.2.1 dX0_deathsIn_10 hl (by decide) rfl (fun ls hl => ?_)
  obtain ⟨u2, hu2, hE⟩ := it_b hE
  refine wC_HW_deathsIn_19_1_h12 C hml  hom p3 u2 2000 1 1 H locs ls hu2 hP hS (lv_sub hl [2, 3, 4, 5, 1, 0] rfl) (fun H locs ls hP hS hl => ?_)
  refine lv_iconst (v := 0) C.1 C.2.1 dX0_deathsIn_36 (by decide) ?_
  refine lv_istore (lv' := [(5, .int 0), (0, .ref (ad 0)), (1, .ref (ad 19)), (2, .int 1), (3, .int p3), (4, .int u2)]) C.1 C.2.1 dX0_deathsIn_37 hl (by decide) rfl (fun ls hl => ?_)
  refine lv_iconst (v := 0) C.1 C.2.1 dX0_deathsIn_39 (by decide) ?_
  refine lv_istore (lv' := [(6, .int 0), (5, .int 0), (0, .ref (ad 0)), (1, .ref (ad 19)), (2, .int 1), (3, .int p3), (4, .int u2)]) C.1 C.2.1 dX0_deathsIn_40 hl (by decide) rfl (fun ls hl => ?_)
  obtain ⟨u3, hu3, hE⟩ := it_b hE
  refine wC_HW_deathsIn_19_1_h42 C hml  hom p3 u2 u3 2000 0 0 v_weight_a1 v_fright_a1 v_age_a1 v_asked_a1 H locs ls hu3 hP hS (lv_sub hl [2, 3, 4, 5, 6, 1, 0] rfl) (fun H locs ls hP hS hl => ?_)
  refine lv_iload C.1 C.2.1 dX0_deathsIn_143 (lv_at hl 0 rfl) ?_
  obtain rfl := Option.some.inj hE
  exact hret _ _ _ _ dX0_deathsIn_145 hP hS
def sC_HW_deathsIn_12_1_h12 (v_many : Int32) (v_allergic : Nat → Int32) : Nat → Int32 → Int32 → Option (Int32)
  | 0, _, _ => none
  | fuel + 1, x4, x5 =>
    if 1 ≤ x5 then
      some x4
    else
      (sC_Room_mayMany v_many v_allergic).bind fun r1302 =>
      sC_HW_deathsIn_12_1_h12 v_many v_allergic fuel (x4 * r1302) (x5 + 1)
def sC_HW_deathsIn_12_1_h42 (x3 : Int32) (x4 : Int32) (v_weight_a2 : Int32) (v_fright_a2 : Int32) (v_age_a2 : Int32) (v_asked_a2 : Nat → Int32) (v_many : Int32) (v_allergic : Nat → Int32) (hk : Nat → Nat) (hb : Nat → Int32) : Nat → Int32 → Int32 → Int32 → Int32 → Int32 → (Nat → Int32) → Option (Int32 × Int32 × Int32 × Int32 × (Nat → Int32))
  | 0, _, _, _, _, _, _ => none
  | fuel + 1, x5, x6, v_weight_a1, v_fright_a1, v_age_a1, v_asked_a1 =>
    if v_many ≤ x6 then
      some (x5, v_weight_a1, v_fright_a1, v_age_a1, v_asked_a1)
    else
      (sC_Room_may v_many v_allergic x6).bind fun r4302 =>
      @Option.bind (Int32 × Int32 × Int32 × Int32 × (Nat → Int32)) _ (
        if r4302 = 0 then
          some (x5, v_weight_a1, v_fright_a1, v_age_a1, v_asked_a1)
        else
          (sC_Pet_take v_weight_a1 v_fright_a1 v_age_a1 v_asked_a1 v_weight_a2 v_fright_a2 v_age_a2 v_asked_a2).bind fun r4305 =>
          if gi x6 8 then
          if gm x6 v_many then
          (sC_Pet_week_H r4305.1 r4305.2.1 r4305.2.2.1 r4305.2.2.2 (hk (x6).toNatClampNeg) x6 (hb (x6).toNatClampNeg)).bind fun r4309 =>
          (sC_Pet_dies r4309.1 r4309.2.1 r4309.2.2 r4305.2.2.2).bind fun r4310 =>
          @Option.bind (Int32) _ (
            if r4310 = (-1) then
              (sC_HW_deathsIn_10_0 x3).bind fun r4315 =>
              some r4315
            else
              if x3 = (-1) then
                some x4
              else
                if x3 = x6 then
                  some x4
                else
                  some 0) fun u4312 =>
          some ((x5 + u4312), r4309.1, r4309.2.1, r4309.2.2, r4305.2.2.2)
          else none
          else none) fun u4304 =>
      sC_HW_deathsIn_12_1_h42 x3 x4 v_weight_a2 v_fright_a2 v_age_a2 v_asked_a2 v_many v_allergic hk hb fuel u4304.1 (x6 + 1) u4304.2.1 u4304.2.2.1 u4304.2.2.2.1 u4304.2.2.2.2
def sC_HW_deathsIn_12_1 (v_weight_a1 : Int32) (v_fright_a1 : Int32) (v_age_a1 : Int32) (v_asked_a1 : Nat → Int32) (v_weight_a2 : Int32) (v_fright_a2 : Int32) (v_age_a2 : Int32) (v_asked_a2 : Nat → Int32) (v_many : Int32) (v_homes : Nat → Option Nat) (v_allergic : Nat → Int32) (hk : Nat → Nat) (hb : Nat → Int32) (p3 : Int32) : Option (Int32 × Int32 × Int32 × Int32 × (Nat → Int32)) :=
  (sC_HW_deathsIn_12_1_h12 v_many v_allergic 2000 1 1).bind fun u2 =>
  (sC_HW_deathsIn_12_1_h42 p3 u2 v_weight_a2 v_fright_a2 v_age_a2 v_asked_a2 v_many v_allergic hk hb 2000 0 0 v_weight_a1 v_fright_a1 v_age_a1 v_asked_a1).bind fun u3 =>
  some (u3.1, u3.2.1, u3.2.2.1, u3.2.2.2.1, u3.2.2.2.2)
set_option maxHeartbeats 4000000 in
theorem wC_HW_deathsIn_12_1_h12 {p : Program} {l : Launch} {e : Env} {s : State} {m : MethodId} {args : Array Value} {below : List Frame} {meth : Method} {c : Code} {Q : State → Prop} {G : kG} {ad : Nat → Nat} {pl : va_W} {hk : Nat → Nat} {hb : Nat → Int32} {v_latestFault : Int32} {v_died : Int32} {v_leastWeight : Int32} {v_noticedBy : Int32} {v_noticed : Int32} {v_orderDied : Int32} {v_orderLeast : Int32} {v_imaged : Option Nat} {v_shelves : Nat → Option Nat} {v_refusals : Nat → Int32} {v_ran : Int32} {v_bodies : Nat → Int32} {v_tweight : Int32} {v_tfright : Int32} {v_tage : Int32} {v_tasked : Nat → Int32} {v_told : Nat → Int32} {v_bestRow : Nat → Int32} {v_weight_a1 : Int32} {v_fright_a1 : Int32} {v_age_a1 : Int32} {v_asked_a1 : Nat → Int32} {v_weight_a2 : Int32} {v_fright_a2 : Int32} {v_age_a2 : Int32} {v_asked_a2 : Nat → Int32} {v_weight_a3 : Int32} {v_fright_a3 : Int32} {v_age_a3 : Int32} {v_asked_a3 : Nat → Int32} {v_weight_a4 : Int32} {v_fright_a4 : Int32} {v_age_a4 : Int32} {v_asked_a4 : Nat → Int32} {v_many : Int32} {v_pets : Int32} {v_last : Int32} {v_seed : Int32} {v_weight : Int32} {v_fright : Int32} {v_age : Int32} {v_asked : Nat → Int32} {v_homes : Nat → Option Nat} {v_marks : Nat → Int32} {v_had : Nat → Int32} {v_allergic : Nat → Int32} {v_deaths : Nat → Int32} (C : nC p s m args c cX0_deathsIn RX0 G (xWV ad) pl (nA (xWV ad))) (hml : c.maxLocals = 8)  (hom : homOK v_homes v_many hk hb pl) (x3 : Int32) (res : Int32) :
    ∀ (fuel : Nat) (x4 : Int32) (x5 : Int32) (H : Heap) (locs : List Loc) (ls : Array Slot), sC_HW_deathsIn_12_1_h12 v_many v_allergic fuel x4 x5 = some res → va_P G.1 vwCl (xW G.2 ad v_latestFault v_died v_leastWeight v_noticedBy v_noticed v_orderDied v_orderLeast v_imaged v_shelves v_refusals v_ran v_bodies v_tweight v_tfright v_tage v_tasked v_told v_bestRow v_weight_a1 v_fright_a1 v_age_a1 v_asked_a1 v_weight_a2 v_fright_a2 v_age_a2 v_asked_a2 v_weight_a3 v_fright_a3 v_age_a3 v_asked_a3 v_weight_a4 v_fright_a4 v_age_a4 v_asked_a4 v_many v_pets v_last v_seed v_weight v_fright v_age v_asked v_homes v_marks v_had v_allergic v_deaths) H → va_S (nA (xWV ad)) s.heap H locs → lv_has ls 8 [(0, .ref (ad 0)), (1, .ref (ad 12)), (2, .int 1), (3, .int x3), (4, .int x4), (5, .int x5)] → (∀ (H : Heap) (locs : List Loc) (ls : Array Slot), va_P G.1 vwCl (xW G.2 ad v_latestFault v_died v_leastWeight v_noticedBy v_noticed v_orderDied v_orderLeast v_imaged v_shelves v_refusals v_ran v_bodies v_tweight v_tfright v_tage v_tasked v_told v_bestRow v_weight_a1 v_fright_a1 v_age_a1 v_asked_a1 v_weight_a2 v_fright_a2 v_age_a2 v_asked_a2 v_weight_a3 v_fright_a3 v_age_a3 v_asked_a3 v_weight_a4 v_fright_a4 v_age_a4 v_asked_a4 v_many v_pets v_last v_seed v_weight v_fright v_age v_asked v_homes v_marks v_had v_allergic v_deaths) H → va_S (nA (xWV ad)) s.heap H locs → lv_has ls 8 [(0, .ref (ad 0)), (1, .ref (ad 12)), (2, .int 1), (3, .int x3), (4, .int res)] → W p l e ({ frames := 5, cells := 0, slots := 0, locals := 106 } : Room) s m args below meth c H locs 0 0 Q (F0 m 36 ls [])) → W p l e ({ frames := 5, cells := 0, slots := 0, locals := 106 } : Room) s m args below meth c H locs 0 0 Q (F0 m 12 ls []) := by
  intro fuel
  induction fuel with
  | zero =>
    intro x4 x5 H locs ls hE
    exact it_n hE
  | succ fuel ih =>
    intro x4 x5 H locs ls hE hP hS hl hX
    rw [sC_HW_deathsIn_12_1_h12] at hE
    refine lv_iload C.1 C.2.1 dX0_deathsIn_12 (lv_at hl 5 rfl) ?_
    refine lv_iload_n C.1 C.2.1 dX0_deathsIn_14 rfl (lv_at hl 2 rfl) ?_
    refine lv_icmp_ge (tgt := 36) C.1 C.2.1 dX0_deathsIn_15 (by decide) (fun c1301 => ?_) (fun c1301 => ?_)
    · have hE := it_t c1301 hE
      obtain rfl := Option.some.inj hE
      exact hX H locs ls hP hS (lv_sub hl [0, 1, 2, 3, 4] rfl)
    · have hE := it_f c1301 hE
      refine lv_iload C.1 C.2.1 dX0_deathsIn_18 (lv_at hl 4 rfl) ?_
      refine lv_aload_n C.1 C.2.1 dX0_deathsIn_20 rfl (lv_at hl 0 rfl) ?_
      refine xWg_0_6 q244 C hP dX0_deathsIn_21 ?_
      obtain ⟨r1302, hr1302, hE⟩ := it_b hE
      refine n_after [18, 19, 20, 21, 22, 23, 24, 25] C.2.2.2.2.2.1 C.2.2.2.2.2.2.2.1 hP hS (va_runV (As := []) (rest := [.int x4]) ⟨C.1, C.2.1, hml, C.2.2.1, C.2.2.2.1⟩ (metC_Room_mayMany l G (fun i => ad (18 + i)) pl _ _ _ _ _ _ _ _ _ _ _ _ _   r1302 hr1302) (cwV (C := RX3) 0 C.2.2.2.1 (lw_V q1113 q1114 q1115 q83 q1116) rfl rfl rfl (by decide +kernel) ⟨Nat.le_of_ble_eq_true rfl, Nat.le_of_ble_eq_true rfl⟩) (n_preV C hP hS [18, 19, 20, 21, 22, 23, 24, 25] sub_xW_rW_18 (by decide) rfl (va_recv C.2.2.2.2.1 hP (ci := 12) (q0 := 18) rfl rfl)) rfl rfl hl.1 rfl (lv_room (Nat.le_of_ble_eq_true rfl)) dX0_deathsIn_24 ⟨Nat.le_refl _, Nat.le_refl _⟩) xW_av rfl rfl mg_xW_rW_18 (fun H locs hP hS => ?_)
      refine lv_imul C.1 C.2.1 dX0_deathsIn_27 ?_
      refine lv_istore (lv' := [(4, .int (x4 * r1302)), (0, .ref (ad 0)), (1, .ref (ad 12)), (2, .int 1), (3, .int x3), (5, .int x5)]) C.1 C.2.1 dX0_deathsIn_28 hl (by decide) rfl (fun ls hl => ?_)
      refine lv_iinc (v := (x5 + 1)) (lv' := [(5, .int (x5 + 1)), (4, .int (x4 * r1302)), (0, .ref (ad 0)), (1, .ref (ad 12)), (2, .int 1), (3, .int x3)]) C.1 C.2.1 dX0_deathsIn_30 hl (k := 5) rfl rfl (by decide) rfl (fun ls hl => ?_)
      refine lv_goto (tgt := 12) C.1 C.2.1 dX0_deathsIn_33 (by decide) ?_
      exact ih (x4 * r1302) (x5 + 1) _ _ _ hE hP hS (lv_sub hl [2, 3, 4, 5, 1, 0] rfl) hX
set_option maxHeartbeats 4000000 in
theorem wC_HW_deathsIn_12_1_h42 {p : Program} {l : Launch} {e : Env} {s : State} {m : MethodId} {args : Array Value} {below : List Frame} {meth : Method} {c : Code} {Q : State → Prop} {G : kG} {ad : Nat → Nat} {pl : va_W} {hk : Nat → Nat} {hb : Nat → Int32} {v_latestFault : Int32} {v_died : Int32} {v_leastWeight : Int32} {v_noticedBy : Int32} {v_noticed : Int32} {v_orderDied : Int32} {v_orderLeast : Int32} {v_imaged : Option Nat} {v_shelves : Nat → Option Nat} {v_refusals : Nat → Int32} {v_ran : Int32} {v_bodies : Nat → Int32} {v_tweight : Int32} {v_tfright : Int32} {v_tage : Int32} {v_tasked : Nat → Int32} {v_told : Nat → Int32} {v_bestRow : Nat → Int32} {v_weight_a2 : Int32} {v_fright_a2 : Int32} {v_age_a2 : Int32} {v_asked_a2 : Nat → Int32} {v_weight_a3 : Int32} {v_fright_a3 : Int32} {v_age_a3 : Int32} {v_asked_a3 : Nat → Int32} {v_weight_a4 : Int32} {v_fright_a4 : Int32} {v_age_a4 : Int32} {v_asked_a4 : Nat → Int32} {v_many : Int32} {v_pets : Int32} {v_last : Int32} {v_seed : Int32} {v_weight : Int32} {v_fright : Int32} {v_age : Int32} {v_asked : Nat → Int32} {v_homes : Nat → Option Nat} {v_marks : Nat → Int32} {v_had : Nat → Int32} {v_allergic : Nat → Int32} {v_deaths : Nat → Int32} (C : nC p s m args c cX0_deathsIn RX0 G (xWV ad) pl (nA (xWV ad))) (hml : c.maxLocals = 8)  (hom : homOK v_homes v_many hk hb pl) (x3 : Int32) (x4 : Int32) (res : Int32 × Int32 × Int32 × Int32 × (Nat → Int32)) :
    ∀ (fuel : Nat) (x5 : Int32) (x6 : Int32) (v_weight_a1 : Int32) (v_fright_a1 : Int32) (v_age_a1 : Int32) (v_asked_a1 : Nat → Int32) (H : Heap) (locs : List Loc) (ls : Array Slot), sC_HW_deathsIn_12_1_h42 x3 x4 v_weight_a2 v_fright_a2 v_age_a2 v_asked_a2 v_many v_allergic hk hb fuel x5 x6 v_weight_a1 v_fright_a1 v_age_a1 v_asked_a1 = some res → va_P G.1 vwCl (xW G.2 ad v_latestFault v_died v_leastWeight v_noticedBy v_noticed v_orderDied v_orderLeast v_imaged v_shelves v_refusals v_ran v_bodies v_tweight v_tfright v_tage v_tasked v_told v_bestRow v_weight_a1 v_fright_a1 v_age_a1 v_asked_a1 v_weight_a2 v_fright_a2 v_age_a2 v_asked_a2 v_weight_a3 v_fright_a3 v_age_a3 v_asked_a3 v_weight_a4 v_fright_a4 v_age_a4 v_asked_a4 v_many v_pets v_last v_seed v_weight v_fright v_age v_asked v_homes v_marks v_had v_allergic v_deaths) H → va_S (nA (xWV ad)) s.heap H locs → lv_has ls 8 [(0, .ref (ad 0)), (1, .ref (ad 12)), (2, .int 1), (3, .int x3), (4, .int x4), (5, .int x5), (6, .int x6)] → (∀ (H : Heap) (locs : List Loc) (ls : Array Slot), va_P G.1 vwCl (xW G.2 ad v_latestFault v_died v_leastWeight v_noticedBy v_noticed v_orderDied v_orderLeast v_imaged v_shelves v_refusals v_ran v_bodies v_tweight v_tfright v_tage v_tasked v_told v_bestRow res.2.1 res.2.2.1 res.2.2.2.1 res.2.2.2.2 v_weight_a2 v_fright_a2 v_age_a2 v_asked_a2 v_weight_a3 v_fright_a3 v_age_a3 v_asked_a3 v_weight_a4 v_fright_a4 v_age_a4 v_asked_a4 v_many v_pets v_last v_seed v_weight v_fright v_age v_asked v_homes v_marks v_had v_allergic v_deaths) H → va_S (nA (xWV ad)) s.heap H locs → lv_has ls 8 [(5, .int res.1)] → W p l e ({ frames := 5, cells := 0, slots := 0, locals := 106 } : Room) s m args below meth c H locs 0 0 Q (F0 m 143 ls [])) → W p l e ({ frames := 5, cells := 0, slots := 0, locals := 106 } : Room) s m args below meth c H locs 0 0 Q (F0 m 42 ls []) := by
  intro fuel
  induction fuel with
  | zero =>
    intro x5 x6 v_weight_a1 v_fright_a1 v_age_a1 v_asked_a1 H locs ls hE
    exact it_n hE
  | succ fuel ih =>
    intro x5 x6 v_weight_a1 v_fright_a1 v_age_a1 v_asked_a1 H locs ls hE hP hS hl hX
    rw [sC_HW_deathsIn_12_1_h42] at hE
    refine lv_iload C.1 C.2.1 dX0_deathsIn_42 (lv_at hl 6 rfl) ?_
    refine lv_aload_n C.1 C.2.1 dX0_deathsIn_44 rfl (lv_at hl 0 rfl) ?_
    refine xWg_0_6 q244 C hP dX0_deathsIn_45 ?_
    refine xWg_18_0 q182 C hP dX0_deathsIn_48 ?_
    refine lv_icmp_ge (tgt := 143) C.1 C.2.1 dX0_deathsIn_51 (by decide) (fun c4301 => ?_) (fun c4301 => ?_)
    · have hE := it_t c4301 hE
      obtain rfl := Option.some.inj hE
      exact hX H locs ls hP hS (lv_sub hl [5] rfl)
    · have hE := it_f c4301 hE
      refine lv_aload_n C.1 C.2.1 dX0_deathsIn_54 rfl (lv_at hl 0 rfl) ?_
      refine xWg_0_6 q244 C hP dX0_deathsIn_55 ?_
      refine lv_iload C.1 C.2.1 dX0_deathsIn_58 (lv_at hl 6 rfl) ?_
      obtain ⟨r4302, hr4302, hE⟩ := it_b hE
      refine n_after [18, 19, 20, 21, 22, 23, 24, 25] C.2.2.2.2.2.1 C.2.2.2.2.2.2.2.1 hP hS (va_runV (As := [.int x6]) (rest := []) ⟨C.1, C.2.1, hml, C.2.2.1, C.2.2.2.1⟩ (metC_Room_may l G (fun i => ad (18 + i)) pl _ _ _ _ _ _ _ _ _ _ _ _ _ x6  r4302 hr4302) (cwV (C := RX3) 1 C.2.2.2.1 (lw_V q1067 q972 q973 q83 q974) rfl rfl rfl (by decide +kernel) ⟨Nat.le_of_ble_eq_true rfl, Nat.le_of_ble_eq_true rfl⟩) (n_preV C hP hS [18, 19, 20, 21, 22, 23, 24, 25] sub_xW_rW_18 (by decide) rfl (va_recv C.2.2.2.2.1 hP (ci := 12) (q0 := 18) rfl rfl)) rfl rfl hl.1 rfl (lv_room (Nat.le_of_ble_eq_true rfl)) dX0_deathsIn_60 ⟨Nat.le_refl _, Nat.le_refl _⟩) xW_av rfl rfl mg_xW_rW_18 (fun H locs hP hS => ?_)
      obtain ⟨u4304, hR, hE⟩ := it_b hE
      have hJ137u4304 : ∀ (H : Heap) (locs : List Loc) (ls : Array Slot), va_P G.1 vwCl (xW G.2 ad v_latestFault v_died v_leastWeight v_noticedBy v_noticed v_orderDied v_orderLeast v_imaged v_shelves v_refusals v_ran v_bodies v_tweight v_tfright v_tage v_tasked v_told v_bestRow u4304.2.1 u4304.2.2.1 u4304.2.2.2.1 u4304.2.2.2.2 v_weight_a2 v_fright_a2 v_age_a2 v_asked_a2 v_weight_a3 v_fright_a3 v_age_a3 v_asked_a3 v_weight_a4 v_fright_a4 v_age_a4 v_asked_a4 v_many v_pets v_last v_seed v_weight v_fright v_age v_asked v_homes v_marks v_had v_allergic v_deaths) H → va_S (nA (xWV ad)) s.heap H locs → lv_has ls 8 [(0, .ref (ad 0)), (1, .ref (ad 12)), (2, .int 1), (3, .int x3), (4, .int x4), (5, .int u4304.1), (6, .int x6)] → W p l e ({ frames := 5, cells := 0, slots := 0, locals := 106 } : Room) s m args below meth c H locs 0 0 Q (F0 m 137 ls []) := by
        intro H locs ls hP hS hl
        refine lv_iinc (v := (x6 + 1)) (lv' := [(6, .int (x6 + 1)), (0, .ref (ad 0)), (1, .ref (ad 12)), (2, .int 1), (3, .int x3), (4, .int x4), (5, .int u4304.1)]) C.1 C.2.1 dX0_deathsIn_137 hl (k := 6) rfl rfl (by decide) rfl (fun ls hl => ?_)
        refine lv_goto (tgt := 42) C.1 C.2.1 dX0_deathsIn_140 (by decide) ?_
        exact ih u4304.1 (x6 + 1) u4304.2.1 u4304.2.2.1 u4304.2.2.2.1 u4304.2.2.2.2 _ _ _ hE hP hS (lv_sub hl [1, 2, 3, 4, 5, 6, 0] rfl) hX
      have hE := hR
      refine lv_if_eq (tgt := 137) C.1 C.2.1 dX0_deathsIn_63 (by decide) (fun c4303 => ?_) (fun c4303 => ?_)
      · have hE := it_t c4303 hE
        obtain rfl := Option.some.inj hE
        exact hJ137u4304 H locs ls hP hS (lv_sub hl [0, 1, 2, 3, 4, 5, 6] rfl)
      · have hE := it_f c4303 hE
        refine lv_aload_n C.1 C.2.1 dX0_deathsIn_66 rfl (lv_at hl 0 rfl) ?_
        refine xWg_0_15 q253 C hP dX0_deathsIn_67 ?_
        refine lv_iload_n C.1 C.2.1 dX0_deathsIn_70 rfl (lv_at hl 2 rfl) ?_
        refine xWl_9 (v := some (ad 10)) C hP (gi_in (by decide)) rfl dX0_deathsIn_71 ?_
        refine lv_aload_n C.1 C.2.1 dX0_deathsIn_72 rfl (lv_at hl 1 rfl) ?_
        obtain ⟨r4305, hr4305, hE⟩ := it_b hE
        refine n_after [10, 11, 12, 13] C.2.2.2.2.2.1 C.2.2.2.2.2.2.2.1 hP hS (va_runV (As := [.ref (ad 12)]) (rest := []) ⟨C.1, C.2.1, hml, C.2.2.1, C.2.2.2.1⟩ (metC_Pet_take l G (fun i => ad (10 + i)) pl _ _ _ _ _ _ _ _   r4305 hr4305) (cwV (C := RX2) 1 C.2.2.2.1 (lw_V q1076 q796 q797 q82 q798) rfl rfl rfl (by decide +kernel) ⟨Nat.le_of_ble_eq_true rfl, Nat.le_of_ble_eq_true rfl⟩) (n_preV C hP hS [10, 11, 12, 13] sub_xW_ppW_10_12 (by decide) rfl (va_recv C.2.2.2.2.1 hP (ci := 11) (q0 := 10) rfl rfl)) rfl rfl hl.1 rfl (lv_room (Nat.le_of_ble_eq_true rfl)) dX0_deathsIn_73 ⟨Nat.le_refl _, Nat.le_refl _⟩) xW_av rfl rfl mg_xW_ppW_10_12 (fun H locs hP hS => ?_)
        refine lv_astore (lv' := [(7, .ref (ad 10)), (0, .ref (ad 0)), (1, .ref (ad 12)), (2, .int 1), (3, .int x3), (4, .int x4), (5, .int x5), (6, .int x6)]) C.1 C.2.1 dX0_deathsIn_76 hl (by decide) rfl (fun ls hl => ?_)
        refine lv_aload C.1 C.2.1 dX0_deathsIn_78 (lv_at hl 0 rfl) ?_
        refine lv_aload_n C.1 C.2.1 dX0_deathsIn_80 rfl (lv_at hl 1 rfl) ?_
        refine xWg_0_6 q244 C hP dX0_deathsIn_81 ?_
        refine xWg_18_5 q193 C hP dX0_deathsIn_84 ?_
        refine lv_iload C.1 C.2.1 dX0_deathsIn_87 (lv_at hl 7 rfl) ?_
        obtain ⟨g4306, hE⟩ := it_g hE
        obtain ⟨g4307, hE⟩ := it_g hE
        obtain ⟨q4308, hq43080, hq4308, hq43087⟩ := hom _ g4307
        refine xWl_21 (v := some q4308) C hP (gi_in g4306) hq43080 dX0_deathsIn_89 ?_
        obtain ⟨r4309, hr4309, hE⟩ := it_b hE
        refine n_after [10, 11] C.2.2.2.2.2.1 C.2.2.2.2.2.2.2.1 hP hS (va_runV (As := [.ref q4308]) (rest := []) ⟨C.1, C.2.1, hml, C.2.2.1, C.2.2.2.1⟩ (metC_Pet_week_H l G (fun i => ad (10 + i)) pl _ _ _ _ q4308 (hk (x6).toNatClampNeg) x6 (hb (x6).toNatClampNeg) hq43087 hq4308 r4309 hr4309) (cwV (C := RX2) 1 C.2.2.2.1 (lw_V q1082 q985 q986 q82 q987) rfl rfl rfl (by decide +kernel) ⟨Nat.le_of_ble_eq_true rfl, Nat.le_of_ble_eq_true rfl⟩) (n_preV C hP hS [10, 11] sub_xW_pW_10 (by decide) rfl (va_recv C.2.2.2.2.1 hP (ci := 11) (q0 := 10) rfl rfl)) rfl rfl hl.1 rfl (lv_room (Nat.le_of_ble_eq_true rfl)) dX0_deathsIn_90 ⟨Nat.le_refl _, Nat.le_refl _⟩) xW_av rfl rfl mg_xW_pW_10 (fun H locs hP hS => ?_)
        refine lv_iload C.1 C.2.1 dX0_deathsIn_93 (lv_at hl 6 rfl) ?_
        refine lv_aload C.1 C.2.1 dX0_deathsIn_95 (lv_at hl 0 rfl) ?_
        obtain ⟨r4310, hr4310, hE⟩ := it_b hE
        refine n_after [10, 11] C.2.2.2.2.2.1 C.2.2.2.2.2.2.2.1 hP hS (va_runV (As := []) (rest := [.int x5]) ⟨C.1, C.2.1, hml, C.2.2.1, C.2.2.2.1⟩ (metC_Pet_dies l G (fun i => ad (10 + i)) pl _ _ _ _   r4310 hr4310) (cwV (C := RX2) 0 C.2.2.2.1 (lw_V q1083 q1024 q1025 q82 q1026) rfl rfl rfl (by decide +kernel) ⟨Nat.le_of_ble_eq_true rfl, Nat.le_of_ble_eq_true rfl⟩) (n_preV C hP hS [10, 11] sub_xW_pW_10 (by decide) rfl (va_recv C.2.2.2.2.1 hP (ci := 11) (q0 := 10) rfl rfl)) rfl rfl hl.1 rfl (lv_room (Nat.le_of_ble_eq_true rfl)) dX0_deathsIn_97 ⟨Nat.le_refl _, Nat.le_refl _⟩) xW_av rfl rfl mg_xW_pW_10 (fun H locs hP hS => ?_)
        refine lv_iconst (v := (-1)) C.1 C.2.1 dX0_deathsIn_100 (by decide) ?_
        obtain ⟨u4312, hR, hE⟩ := it_b hE
        have hJ134u4312 : ∀ (H : Heap) (locs : List Loc) (ls : Array Slot), va_P G.1 vwCl (xW G.2 ad v_latestFault v_died v_leastWeight v_noticedBy v_noticed v_orderDied v_orderLeast v_imaged v_shelves v_refusals v_ran v_bodies v_tweight v_tfright v_tage v_tasked v_told v_bestRow r4309.1 r4309.2.1 r4309.2.2 r4305.2.2.2 v_weight_a2 v_fright_a2 v_age_a2 v_asked_a2 v_weight_a3 v_fright_a3 v_age_a3 v_asked_a3 v_weight_a4 v_fright_a4 v_age_a4 v_asked_a4 v_many v_pets v_last v_seed v_weight v_fright v_age v_asked v_homes v_marks v_had v_allergic v_deaths) H → va_S (nA (xWV ad)) s.heap H locs → lv_has ls 8 [(0, .ref (ad 0)), (1, .ref (ad 12)), (2, .int 1), (3, .int x3), (4, .int x4), (6, .int x6)] → W p l e ({ frames := 5, cells := 0, slots := 0, locals := 106 } : Room) s m args below meth c H locs 0 0 Q (F0 m 134 ls [.int u4312, .int x5]) := by
          intro H locs ls hP hS hl
          refine lv_iadd C.1 C.2.1 dX0_deathsIn_134 ?_
          refine lv_istore (lv' := [(5, .int (x5 + u4312)), (0, .ref (ad 0)), (1, .ref (ad 12)), (2, .int 1), (3, .int x3), (4, .int x4), (6, .int x6)]) C.1 C.2.1 dX0_deathsIn_135 hl (by decide) rfl (fun ls hl => ?_)
          obtain rfl := Option.some.inj hE
          exact hJ137u4304 H locs ls hP hS (lv_sub hl [1, 2, 3, 4, 5, 0, 6] rfl)
        have hE := hR
        refine lv_icmp_ne (tgt := 117) C.1 C.2.1 dX0_deathsIn_101 (by decide) (fun c4311 => ?_) (fun c4311 => ?_)
        · have hE := it_f c4311 hE
          refine lv_iload_n C.1 C.2.1 dX0_deathsIn_117 rfl (lv_at hl 4 rfl) ?_
          refine lv_iconst (v := (-1)) C.1 C.2.1 dX0_deathsIn_118 (by decide) ?_
          refine lv_icmp_eq (tgt := 128) C.1 C.2.1 dX0_deathsIn_119 (by decide) (fun c4313 => ?_) (fun c4313 => ?_)
          · have hE := it_t c4313 hE
            refine lv_iload C.1 C.2.1 dX0_deathsIn_128 (lv_at hl 5 rfl) ?_
            refine lv_goto (tgt := 134) C.1 C.2.1 dX0_deathsIn_130 (by decide) ?_
            obtain rfl := Option.some.inj hE
            exact hJ134u4312 H locs ls hP hS (lv_sub hl [1, 2, 3, 4, 5, 7] rfl)
          · have hE := it_f c4313 hE
            refine lv_iload_n C.1 C.2.1 dX0_deathsIn_122 rfl (lv_at hl 4 rfl) ?_
            refine lv_iload C.1 C.2.1 dX0_deathsIn_123 (lv_at hl 7 rfl) ?_
            refine lv_icmp_ne (tgt := 133) C.1 C.2.1 dX0_deathsIn_125 (by decide) (fun c4314 => ?_) (fun c4314 => ?_)
            · have hE := it_f c4314 hE
              refine lv_iconst (v := 0) C.1 C.2.1 dX0_deathsIn_133 (by decide) ?_
              obtain rfl := Option.some.inj hE
              exact hJ134u4312 H locs ls hP hS (lv_sub hl [1, 2, 3, 4, 5, 7] rfl)
            · have hE := it_t c4314 hE
              refine lv_iload C.1 C.2.1 dX0_deathsIn_128 (lv_at hl 5 rfl) ?_
              refine lv_goto (tgt := 134) C.1 C.2.1 dX0_deathsIn_130 (by decide) ?_
              obtain rfl := Option.some.inj hE
              exact hJ134u4312 H locs ls hP hS (lv_sub hl [1, 2, 3, 4, 5, 7] rfl)
        · have hE := it_t c4311 hE
          refine lv_aload_n C.1 C.2.1 dX0_deathsIn_104 rfl (lv_at hl 1 rfl) ?_
          refine lv_aload C.1 C.2.1 dX0_deathsIn_105 (lv_at hl 0 rfl) ?_
          refine lv_iload_n C.1 C.2.1 dX0_deathsIn_107 rfl (lv_at hl 3 rfl) ?_
          refine lv_iconst (v := 1) C.1 C.2.1 dX0_deathsIn_108 (by decide) ?_
          refine lv_isub C.1 C.2.1 dX0_deathsIn_109 ?_
          rw [show (1 : Int32) - 1 = 0 from by decide]
          refine lv_iload_n C.1 C.2.1 dX0_deathsIn_110 rfl (lv_at hl 4 rfl) ?_
          obtain ⟨r4315, hr4315, hE⟩ := it_b hE
          refine n_afterS C.2.2.2.2.2.2.2.1 hS (va_runV (As := [.ref (ad 10), .int 0, .int x3]) (rest := [.int x5]) ⟨C.1, C.2.1, hml, C.2.2.1, C.2.2.2.1⟩ (metC_HW_deathsIn_10_0 l G ad pl _ _ _ _ _ _ _ _ _ _ _ _ _ _ _ _ _ _ _ _ _ _ _ _ _ _ _ _ _ _ _ _ _ _ _ _ _ _ _ _ _ _ _ _ _ _ _ x3  r4315 hr4315) (cwV (C := RX0) 3 C.2.2.2.1 (lw_V q1154 q1156 qs28 q80 q1157) rfl rfl rfl (by decide +kernel) ⟨Nat.le_of_ble_eq_true rfl, Nat.le_of_ble_eq_true rfl⟩) (n_preV0 C hP hS (va_recv C.2.2.2.2.1 hP (ci := 16) (q0 := 0) rfl rfl)) rfl rfl hl.1 rfl (lv_room (Nat.le_of_ble_eq_true rfl)) dX0_deathsIn_111 ⟨Nat.le_refl _, Nat.le_refl _⟩) (fun H locs hP hS => ?_)
          refine lv_goto (tgt := 134) C.1 C.2.1 dX0_deathsIn_114 (by decide) ?_
          obtain rfl := Option.some.inj hE
          exact hJ134u4312 H locs ls hP hS (lv_sub hl [1, 2, 3, 4, 5, 7] rfl)
set_option maxHeartbeats 4000000 in
theorem metC_HW_deathsIn_12_1 (l : Launch) (G : kG) (ad : Nat → Nat) (pl : va_W) (hk : Nat → Nat) (hb : Nat → Int32) (v_latestFault : Int32) (v_died : Int32) (v_leastWeight : Int32) (v_noticedBy : Int32) (v_noticed : Int32) (v_orderDied : Int32) (v_orderLeast : Int32) (v_imaged : Option Nat) (v_shelves : Nat → Option Nat) (v_refusals : Nat → Int32) (v_ran : Int32) (v_bodies : Nat → Int32) (v_tweight : Int32) (v_tfright : Int32) (v_tage : Int32) (v_tasked : Nat → Int32) (v_told : Nat → Int32) (v_bestRow : Nat → Int32) (v_weight_a1 : Int32) (v_fright_a1 : Int32) (v_age_a1 : Int32) (v_asked_a1 : Nat → Int32) (v_weight_a2 : Int32) (v_fright_a2 : Int32) (v_age_a2 : Int32) (v_asked_a2 : Nat → Int32) (v_weight_a3 : Int32) (v_fright_a3 : Int32) (v_age_a3 : Int32) (v_asked_a3 : Nat → Int32) (v_weight_a4 : Int32) (v_fright_a4 : Int32) (v_age_a4 : Int32) (v_asked_a4 : Nat → Int32) (v_many : Int32) (v_pets : Int32) (v_last : Int32) (v_seed : Int32) (v_weight : Int32) (v_fright : Int32) (v_age : Int32) (v_asked : Nat → Int32) (v_homes : Nat → Option Nat) (v_marks : Nat → Int32) (v_had : Nat → Int32) (v_allergic : Nat → Int32) (v_deaths : Nat → Int32) (hom : homOK v_homes v_many hk hb pl) (p3 : Int32) (res : Int32 × Int32 × Int32 × Int32 × (Nat → Int32)) (hE : sC_HW_deathsIn_12_1 v_weight_a1 v_fright_a1 v_age_a1 v_asked_a1 v_weight_a2 v_fright_a2 v_age_a2 v_asked_a2 v_many v_homes v_allergic hk hb p3 = some res) : Met l yX0_deathsIn (ws_ yX0_deathsIn cX0_deathsIn 8 (some .int)) ({ frames := 5, cells := 0, slots := 0, locals := 106 } : Room) (nPc G (xW G.2 ad v_latestFault v_died v_leastWeight v_noticedBy v_noticed v_orderDied v_orderLeast v_imaged v_shelves v_refusals v_ran v_bodies v_tweight v_tfright v_tage v_tasked v_told v_bestRow v_weight_a1 v_fright_a1 v_age_a1 v_asked_a1 v_weight_a2 v_fright_a2 v_age_a2 v_asked_a2 v_weight_a3 v_fright_a3 v_age_a3 v_asked_a3 v_weight_a4 v_fright_a4 v_age_a4 v_asked_a4 v_many v_pets v_last v_seed v_weight v_fright v_age v_asked v_homes v_marks v_had v_allergic v_deaths) pl (xWV ad) [.ref (ad 0), .ref (ad 12), .int 1, .int p3]) (nQc G (xW G.2 ad v_latestFault v_died v_leastWeight v_noticedBy v_noticed v_orderDied v_orderLeast v_imaged v_shelves v_refusals v_ran v_bodies v_tweight v_tfright v_tage v_tasked v_told v_bestRow res.2.1 res.2.2.1 res.2.2.2.1 res.2.2.2.2 v_weight_a2 v_fright_a2 v_age_a2 v_asked_a2 v_weight_a3 v_fright_a3 v_age_a3 v_asked_a3 v_weight_a4 v_fright_a4 v_age_a4 v_asked_a4 v_many v_pets v_last v_seed v_weight v_fright v_age v_asked v_homes v_marks v_had v_allergic v_deaths) (xWV ad) (some (.int res.1))) 0 0 (nA (xWV ad)) := by
  refine n_ofW (own := RX0) (by decide) rfl (Nat.le_of_ble_eq_true rfl) ?_
  intro p e s m args below meth c ls C hml hP hS hl hr hlocks
  have hl : lv_has ls 8 [(0, .ref (ad 0)), (1, .ref (ad 12)), (2, .int 1), (3, .int p3)] := hl
  obtain ⟨Q, hQ⟩ : ∃ Q, Q = MQ below (nQc G (xW G.2 ad v_latestFault v_died v_leastWeight v_noticedBy v_noticed v_orderDied v_orderLeast v_imaged v_shelves v_refusals v_ran v_bodies v_tweight v_tfright v_tage v_tasked v_told v_bestRow res.2.1 res.2.2.1 res.2.2.2.1 res.2.2.2.2 v_weight_a2 v_fright_a2 v_age_a2 v_asked_a2 v_weight_a3 v_fright_a3 v_age_a3 v_asked_a3 v_weight_a4 v_fright_a4 v_age_a4 v_asked_a4 v_many v_pets v_last v_seed v_weight v_fright v_age v_asked v_homes v_marks v_had v_allergic v_deaths) (xWV ad) (some (.int res.1))) args s 0 0 (nA (xWV ad)) := ⟨_, rfl⟩
  rw [← hQ]
  have hret : ∀ (pc : Nat) (ls : Array Slot) (H : Heap) (locs : List Loc), decode cX0_deathsIn pc = .ok (.ireturn, 1) → va_P G.1 vwCl (xW G.2 ad v_latestFault v_died v_leastWeight v_noticedBy v_noticed v_orderDied v_orderLeast v_imaged v_shelves v_refusals v_ran v_bodies v_tweight v_tfright v_tage v_tasked v_told v_bestRow res.2.1 res.2.2.1 res.2.2.2.1 res.2.2.2.2 v_weight_a2 v_fright_a2 v_age_a2 v_asked_a2 v_weight_a3 v_fright_a3 v_age_a3 v_asked_a3 v_weight_a4 v_fright_a4 v_age_a4 v_asked_a4 v_many v_pets v_last v_seed v_weight v_fright v_age v_asked v_homes v_marks v_had v_allergic v_deaths) H → va_S (nA (xWV ad)) s.heap H locs → W p l e ({ frames := 5, cells := 0, slots := 0, locals := 106 } : Room) s m args below meth c H locs 0 0 Q (F0 m pc ls [(.int res.1)]) := by
    intro pc ls H locs hd hP hS
    rw [hQ]
    exact n_iret C hr hlocks hd hP hS
  clear hQ
  obtain ⟨H, hH⟩ : ∃ H, H = s.heap := ⟨_, rfl⟩
  obtain ⟨locs, hlo⟩ : ∃ locs : List Loc, locs = [] := ⟨_, rfl⟩
  have hP : va_P G.1 vwCl (xW G.2 ad v_latestFault v_died v_leastWeight v_noticedBy v_noticed v_orderDied v_orderLeast v_imaged v_shelves v_refusals v_ran v_bodies v_tweight v_tfright v_tage v_tasked v_told v_bestRow v_weight_a1 v_fright_a1 v_age_a1 v_asked_a1 v_weight_a2 v_fright_a2 v_age_a2 v_asked_a2 v_weight_a3 v_fright_a3 v_age_a3 v_asked_a3 v_weight_a4 v_fright_a4 v_age_a4 v_asked_a4 v_many v_pets v_last v_seed v_weight v_fright v_age v_asked v_homes v_marks v_had v_allergic v_deaths) H := by rw [hH]; exact hP
  have hS : va_S (nA (xWV ad)) s.heap H locs := by rw [hH, hlo]; exact hS
  suffices hZ : W p l e ({ frames := 5, cells := 0, slots := 0, locals := 106 } : Room) s m args below meth c H locs 0 0 Q (F0 m 0 ls []) by rw [hH, hlo] at hZ; exact hZ
  clear hH hlo
  unfold sC_HW_deathsIn_12_1 at hE
  refine lv_iload_n C.1 C.2.1 dX0_deathsIn_0 rfl (lv_at hl 2 rfl) ?_
  refine lv_if_ne (tgt := 6) C.1 C.2.1 dX0_deathsIn_1 (by decide) (fun c1 => ?_) (fun c1 => absurd c1 (by decide))
  refine lv_iconst (v := 1) C.1 C.2.1 dX0_deathsIn_6 (by decide) ?_
  refine lv_istore (lv' := [(4, .int 1), (0, .ref (ad 0)), (1, .ref (ad 12)), (2, .int 1), (3, .int p3)]) C.1 C.2.1 dX0_deathsIn_7 hl (by decide) rfl (fun ls hl => ?_)
  refine lv_iconst (v := 1) C.1 C.2.1 dX0_deathsIn_9 (by decide) ?_
  refine lv_istore (lv' := [(5, .int 1), (4, .int 1), (0, .ref (ad 0)), (1, .ref (ad 12)), (2, .int 1), (3, .int p3)]) C.1 C.2.1 dX0_deathsIn_10 hl (by decide) rfl (fun ls hl => ?_)
  obtain ⟨u2, hu2, hE⟩ := it_b hE
  refine wC_HW_deathsIn_12_1_h12 C hml  hom p3 u2 2000 1 1 H locs ls hu2 hP hS (lv_sub hl [2, 3, 4, 5, 1, 0] rfl) (fun H locs ls hP hS hl => ?_)
  refine lv_iconst (v := 0) C.1 C.2.1 dX0_deathsIn_36 (by decide) ?_
  refine lv_istore (lv' := [(5, .int 0), (0, .ref (ad 0)), (1, .ref (ad 12)), (2, .int 1), (3, .int p3), (4, .int u2)]) C.1 C.2.1 dX0_deathsIn_37 hl (by decide) rfl (fun ls hl => ?_)
  refine lv_iconst (v := 0) C.1 C.2.1 dX0_deathsIn_39 (by decide) ?_
  refine lv_istore (lv' := [(6, .int 0), (5, .int 0), (0, .ref (ad 0)), (1, .ref (ad 12)), (2, .int 1), (3, .int p3), (4, .int u2)]) C.1 C.2.1 dX0_deathsIn_40 hl (by decide) rfl (fun ls hl => ?_)
  obtain ⟨u3, hu3, hE⟩ := it_b hE
  refine wC_HW_deathsIn_12_1_h42 C hml  hom p3 u2 u3 2000 0 0 v_weight_a1 v_fright_a1 v_age_a1 v_asked_a1 H locs ls hu3 hP hS (lv_sub hl [2, 3, 4, 5, 6, 1, 0] rfl) (fun H locs ls hP hS hl => ?_)
  refine lv_iload C.1 C.2.1 dX0_deathsIn_143 (lv_at hl 0 rfl) ?_
  obtain rfl := Option.some.inj hE
  exact hret _ _ _ _ dX0_deathsIn_145 hP hS
def sC_HW_deathsIn_19_2_h12 (v_many : Int32) (v_allergic : Nat → Int32) : Nat → Int32 → Int32 → Option (Int32)
  | 0, _, _ => none
  | fuel + 1, x4, x5 =>
    if 2 ≤ x5 then
      some x4
    else
      (sC_Room_mayMany v_many v_allergic).bind fun r1302 =>
      sC_HW_deathsIn_19_2_h12 v_many v_allergic fuel (x4 * r1302) (x5 + 1)
def sC_HW_deathsIn_19_2_h42 (x3 : Int32) (x4 : Int32) (v_many : Int32) (v_weight : Int32) (v_fright : Int32) (v_age : Int32) (v_asked : Nat → Int32) (v_homes : Nat → Option Nat) (v_allergic : Nat → Int32) (hk : Nat → Nat) (hb : Nat → Int32) : Nat → Int32 → Int32 → Int32 → Int32 → Int32 → (Nat → Int32) → Int32 → Int32 → Int32 → (Nat → Int32) → Option (Int32 × Int32 × Int32 × Int32 × (Nat → Int32) × Int32 × Int32 × Int32 × (Nat → Int32))
  | 0, _, _, _, _, _, _, _, _, _, _ => none
  | fuel + 1, x5, x6, v_weight_a1, v_fright_a1, v_age_a1, v_asked_a1, v_weight_a2, v_fright_a2, v_age_a2, v_asked_a2 =>
    if v_many ≤ x6 then
      some (x5, v_weight_a1, v_fright_a1, v_age_a1, v_asked_a1, v_weight_a2, v_fright_a2, v_age_a2, v_asked_a2)
    else
      (sC_Room_may v_many v_allergic x6).bind fun r4302 =>
      @Option.bind (Int32 × Int32 × Int32 × Int32 × (Nat → Int32) × Int32 × Int32 × Int32 × (Nat → Int32)) _ (
        if r4302 = 0 then
          some (x5, v_weight_a1, v_fright_a1, v_age_a1, v_asked_a1, v_weight_a2, v_fright_a2, v_age_a2, v_asked_a2)
        else
          (sC_Pet_take v_weight_a2 v_fright_a2 v_age_a2 v_asked_a2 v_weight v_fright v_age v_asked).bind fun r4305 =>
          if gi x6 8 then
          if gm x6 v_many then
          (sC_Pet_week_H r4305.1 r4305.2.1 r4305.2.2.1 r4305.2.2.2 (hk (x6).toNatClampNeg) x6 (hb (x6).toNatClampNeg)).bind fun r4309 =>
          (sC_Pet_dies r4309.1 r4309.2.1 r4309.2.2 r4305.2.2.2).bind fun r4310 =>
          @Option.bind (Int32 × Int32 × Int32 × Int32 × (Nat → Int32)) _ (
            if r4310 = (-1) then
              (sC_HW_deathsIn_12_1 v_weight_a1 v_fright_a1 v_age_a1 v_asked_a1 r4309.1 r4309.2.1 r4309.2.2 r4305.2.2.2 v_many v_homes v_allergic hk hb x3).bind fun r4315 =>
              some (r4315.1, r4315.2.1, r4315.2.2.1, r4315.2.2.2.1, r4315.2.2.2.2)
            else
              if x3 = (-1) then
                some (x4, v_weight_a1, v_fright_a1, v_age_a1, v_asked_a1)
              else
                if x3 = x6 then
                  some (x4, v_weight_a1, v_fright_a1, v_age_a1, v_asked_a1)
                else
                  some (0, v_weight_a1, v_fright_a1, v_age_a1, v_asked_a1)) fun u4312 =>
          some ((x5 + u4312.1), u4312.2.1, u4312.2.2.1, u4312.2.2.2.1, u4312.2.2.2.2, r4309.1, r4309.2.1, r4309.2.2, r4305.2.2.2)
          else none
          else none) fun u4304 =>
      sC_HW_deathsIn_19_2_h42 x3 x4 v_many v_weight v_fright v_age v_asked v_homes v_allergic hk hb fuel u4304.1 (x6 + 1) u4304.2.1 u4304.2.2.1 u4304.2.2.2.1 u4304.2.2.2.2.1 u4304.2.2.2.2.2.1 u4304.2.2.2.2.2.2.1 u4304.2.2.2.2.2.2.2.1 u4304.2.2.2.2.2.2.2.2
def sC_HW_deathsIn_19_2 (v_weight_a1 : Int32) (v_fright_a1 : Int32) (v_age_a1 : Int32) (v_asked_a1 : Nat → Int32) (v_weight_a2 : Int32) (v_fright_a2 : Int32) (v_age_a2 : Int32) (v_asked_a2 : Nat → Int32) (v_many : Int32) (v_weight : Int32) (v_fright : Int32) (v_age : Int32) (v_asked : Nat → Int32) (v_homes : Nat → Option Nat) (v_allergic : Nat → Int32) (hk : Nat → Nat) (hb : Nat → Int32) (p3 : Int32) : Option (Int32 × Int32 × Int32 × Int32 × (Nat → Int32) × Int32 × Int32 × Int32 × (Nat → Int32)) :=
  (sC_HW_deathsIn_19_2_h12 v_many v_allergic 2000 1 1).bind fun u2 =>
  (sC_HW_deathsIn_19_2_h42 p3 u2 v_many v_weight v_fright v_age v_asked v_homes v_allergic hk hb 2000 0 0 v_weight_a1 v_fright_a1 v_age_a1 v_asked_a1 v_weight_a2 v_fright_a2 v_age_a2 v_asked_a2).bind fun u3 =>
  some (u3.1, u3.2.1, u3.2.2.1, u3.2.2.2.1, u3.2.2.2.2.1, u3.2.2.2.2.2.1, u3.2.2.2.2.2.2.1, u3.2.2.2.2.2.2.2.1, u3.2.2.2.2.2.2.2.2)
set_option maxHeartbeats 4000000 in
theorem wC_HW_deathsIn_19_2_h12 {p : Program} {l : Launch} {e : Env} {s : State} {m : MethodId} {args : Array Value} {below : List Frame} {meth : Method} {c : Code} {Q : State → Prop} {G : kG} {ad : Nat → Nat} {pl : va_W} {hk : Nat → Nat} {hb : Nat → Int32} {v_latestFault : Int32} {v_died : Int32} {v_leastWeight : Int32} {v_noticedBy : Int32} {v_noticed : Int32} {v_orderDied : Int32} {v_orderLeast : Int32} {v_imaged : Option Nat} {v_shelves : Nat → Option Nat} {v_refusals : Nat → Int32} {v_ran : Int32} {v_bodies : Nat → Int32} {v_tweight : Int32} {v_tfright : Int32} {v_tage : Int32} {v_tasked : Nat → Int32} {v_told : Nat → Int32} {v_bestRow : Nat → Int32} {v_weight_a1 : Int32} {v_fright_a1 : Int32} {v_age_a1 : Int32} {v_asked_a1 : Nat → Int32} {v_weight_a2 : Int32} {v_fright_a2 : Int32} {v_age_a2 : Int32} {v_asked_a2 : Nat → Int32} {v_weight_a3 : Int32} {v_fright_a3 : Int32} {v_age_a3 : Int32} {v_asked_a3 : Nat → Int32} {v_weight_a4 : Int32} {v_fright_a4 : Int32} {v_age_a4 : Int32} {v_asked_a4 : Nat → Int32} {v_many : Int32} {v_pets : Int32} {v_last : Int32} {v_seed : Int32} {v_weight : Int32} {v_fright : Int32} {v_age : Int32} {v_asked : Nat → Int32} {v_homes : Nat → Option Nat} {v_marks : Nat → Int32} {v_had : Nat → Int32} {v_allergic : Nat → Int32} {v_deaths : Nat → Int32} (C : nC p s m args c cX0_deathsIn RX0 G (xWV ad) pl (nA (xWV ad))) (hml : c.maxLocals = 8)  (hom : homOK v_homes v_many hk hb pl) (x3 : Int32) (res : Int32) :
    ∀ (fuel : Nat) (x4 : Int32) (x5 : Int32) (H : Heap) (locs : List Loc) (ls : Array Slot), sC_HW_deathsIn_19_2_h12 v_many v_allergic fuel x4 x5 = some res → va_P G.1 vwCl (xW G.2 ad v_latestFault v_died v_leastWeight v_noticedBy v_noticed v_orderDied v_orderLeast v_imaged v_shelves v_refusals v_ran v_bodies v_tweight v_tfright v_tage v_tasked v_told v_bestRow v_weight_a1 v_fright_a1 v_age_a1 v_asked_a1 v_weight_a2 v_fright_a2 v_age_a2 v_asked_a2 v_weight_a3 v_fright_a3 v_age_a3 v_asked_a3 v_weight_a4 v_fright_a4 v_age_a4 v_asked_a4 v_many v_pets v_last v_seed v_weight v_fright v_age v_asked v_homes v_marks v_had v_allergic v_deaths) H → va_S (nA (xWV ad)) s.heap H locs → lv_has ls 8 [(0, .ref (ad 0)), (1, .ref (ad 19)), (2, .int 2), (3, .int x3), (4, .int x4), (5, .int x5)] → (∀ (H : Heap) (locs : List Loc) (ls : Array Slot), va_P G.1 vwCl (xW G.2 ad v_latestFault v_died v_leastWeight v_noticedBy v_noticed v_orderDied v_orderLeast v_imaged v_shelves v_refusals v_ran v_bodies v_tweight v_tfright v_tage v_tasked v_told v_bestRow v_weight_a1 v_fright_a1 v_age_a1 v_asked_a1 v_weight_a2 v_fright_a2 v_age_a2 v_asked_a2 v_weight_a3 v_fright_a3 v_age_a3 v_asked_a3 v_weight_a4 v_fright_a4 v_age_a4 v_asked_a4 v_many v_pets v_last v_seed v_weight v_fright v_age v_asked v_homes v_marks v_had v_allergic v_deaths) H → va_S (nA (xWV ad)) s.heap H locs → lv_has ls 8 [(0, .ref (ad 0)), (1, .ref (ad 19)), (2, .int 2), (3, .int x3), (4, .int res)] → W p l e ({ frames := 6, cells := 0, slots := 0, locals := 133 } : Room) s m args below meth c H locs 0 0 Q (F0 m 36 ls [])) → W p l e ({ frames := 6, cells := 0, slots := 0, locals := 133 } : Room) s m args below meth c H locs 0 0 Q (F0 m 12 ls []) := by
  intro fuel
  induction fuel with
  | zero =>
    intro x4 x5 H locs ls hE
    exact it_n hE
  | succ fuel ih =>
    intro x4 x5 H locs ls hE hP hS hl hX
    rw [sC_HW_deathsIn_19_2_h12] at hE
    refine lv_iload C.1 C.2.1 dX0_deathsIn_12 (lv_at hl 5 rfl) ?_
    refine lv_iload_n C.1 C.2.1 dX0_deathsIn_14 rfl (lv_at hl 2 rfl) ?_
    refine lv_icmp_ge (tgt := 36) C.1 C.2.1 dX0_deathsIn_15 (by decide) (fun c1301 => ?_) (fun c1301 => ?_)
    · have hE := it_t c1301 hE
      obtain rfl := Option.some.inj hE
      exact hX H locs ls hP hS (lv_sub hl [0, 1, 2, 3, 4] rfl)
    · have hE := it_f c1301 hE
      refine lv_iload C.1 C.2.1 dX0_deathsIn_18 (lv_at hl 4 rfl) ?_
      refine lv_aload_n C.1 C.2.1 dX0_deathsIn_20 rfl (lv_at hl 0 rfl) ?_
      refine xWg_0_6 q244 C hP dX0_deathsIn_21 ?_
      obtain ⟨r1302, hr1302, hE⟩ := it_b hE
      refine n_after [18, 19, 20, 21, 22, 23, 24, 25] C.2.2.2.2.2.1 C.2.2.2.2.2.2.2.1 hP hS (va_runV (As := []) (rest := [.int x4]) ⟨C.1, C.2.1, hml, C.2.2.1, C.2.2.2.1⟩ (metC_Room_mayMany l G (fun i => ad (18 + i)) pl _ _ _ _ _ _ _ _ _ _ _ _ _   r1302 hr1302) (cwV (C := RX3) 0 C.2.2.2.1 (lw_V q1113 q1114 q1115 q83 q1116) rfl rfl rfl (by decide +kernel) ⟨Nat.le_of_ble_eq_true rfl, Nat.le_of_ble_eq_true rfl⟩) (n_preV C hP hS [18, 19, 20, 21, 22, 23, 24, 25] sub_xW_rW_18 (by decide) rfl (va_recv C.2.2.2.2.1 hP (ci := 12) (q0 := 18) rfl rfl)) rfl rfl hl.1 rfl (lv_room (Nat.le_of_ble_eq_true rfl)) dX0_deathsIn_24 ⟨Nat.le_refl _, Nat.le_refl _⟩) xW_av rfl rfl mg_xW_rW_18 (fun H locs hP hS => ?_)
      refine lv_imul C.1 C.2.1 dX0_deathsIn_27 ?_
      refine lv_istore (lv' := [(4, .int (x4 * r1302)), (0, .ref (ad 0)), (1, .ref (ad 19)), (2, .int 2), (3, .int x3), (5, .int x5)]) C.1 C.2.1 dX0_deathsIn_28 hl (by decide) rfl (fun ls hl => ?_)
      refine lv_iinc (v := (x5 + 1)) (lv' := [(5, .int (x5 + 1)), (4, .int (x4 * r1302)), (0, .ref (ad 0)), (1, .ref (ad 19)), (2, .int 2), (3, .int x3)]) C.1 C.2.1 dX0_deathsIn_30 hl (k := 5) rfl rfl (by decide) rfl (fun ls hl => ?_)
      refine lv_goto (tgt := 12) C.1 C.2.1 dX0_deathsIn_33 (by decide) ?_
      exact ih (x4 * r1302) (x5 + 1) _ _ _ hE hP hS (lv_sub hl [2, 3, 4, 5, 1, 0] rfl) hX
set_option maxHeartbeats 4000000 in
theorem wC_HW_deathsIn_19_2_h42 {p : Program} {l : Launch} {e : Env} {s : State} {m : MethodId} {args : Array Value} {below : List Frame} {meth : Method} {c : Code} {Q : State → Prop} {G : kG} {ad : Nat → Nat} {pl : va_W} {hk : Nat → Nat} {hb : Nat → Int32} {v_latestFault : Int32} {v_died : Int32} {v_leastWeight : Int32} {v_noticedBy : Int32} {v_noticed : Int32} {v_orderDied : Int32} {v_orderLeast : Int32} {v_imaged : Option Nat} {v_shelves : Nat → Option Nat} {v_refusals : Nat → Int32} {v_ran : Int32} {v_bodies : Nat → Int32} {v_tweight : Int32} {v_tfright : Int32} {v_tage : Int32} {v_tasked : Nat → Int32} {v_told : Nat → Int32} {v_bestRow : Nat → Int32} {v_weight_a3 : Int32} {v_fright_a3 : Int32} {v_age_a3 : Int32} {v_asked_a3 : Nat → Int32} {v_weight_a4 : Int32} {v_fright_a4 : Int32} {v_age_a4 : Int32} {v_asked_a4 : Nat → Int32} {v_many : Int32} {v_pets : Int32} {v_last : Int32} {v_seed : Int32} {v_weight : Int32} {v_fright : Int32} {v_age : Int32} {v_asked : Nat → Int32} {v_homes : Nat → Option Nat} {v_marks : Nat → Int32} {v_had : Nat → Int32} {v_allergic : Nat → Int32} {v_deaths : Nat → Int32} (C : nC p s m args c cX0_deathsIn RX0 G (xWV ad) pl (nA (xWV ad))) (hml : c.maxLocals = 8)  (hom : homOK v_homes v_many hk hb pl) (x3 : Int32) (x4 : Int32) (res : Int32 × Int32 × Int32 × Int32 × (Nat → Int32) × Int32 × Int32 × Int32 × (Nat → Int32)) :
    ∀ (fuel : Nat) (x5 : Int32) (x6 : Int32) (v_weight_a1 : Int32) (v_fright_a1 : Int32) (v_age_a1 : Int32) (v_asked_a1 : Nat → Int32) (v_weight_a2 : Int32) (v_fright_a2 : Int32) (v_age_a2 : Int32) (v_asked_a2 : Nat → Int32) (H : Heap) (locs : List Loc) (ls : Array Slot), sC_HW_deathsIn_19_2_h42 x3 x4 v_many v_weight v_fright v_age v_asked v_homes v_allergic hk hb fuel x5 x6 v_weight_a1 v_fright_a1 v_age_a1 v_asked_a1 v_weight_a2 v_fright_a2 v_age_a2 v_asked_a2 = some res → va_P G.1 vwCl (xW G.2 ad v_latestFault v_died v_leastWeight v_noticedBy v_noticed v_orderDied v_orderLeast v_imaged v_shelves v_refusals v_ran v_bodies v_tweight v_tfright v_tage v_tasked v_told v_bestRow v_weight_a1 v_fright_a1 v_age_a1 v_asked_a1 v_weight_a2 v_fright_a2 v_age_a2 v_asked_a2 v_weight_a3 v_fright_a3 v_age_a3 v_asked_a3 v_weight_a4 v_fright_a4 v_age_a4 v_asked_a4 v_many v_pets v_last v_seed v_weight v_fright v_age v_asked v_homes v_marks v_had v_allergic v_deaths) H → va_S (nA (xWV ad)) s.heap H locs → lv_has ls 8 [(0, .ref (ad 0)), (1, .ref (ad 19)), (2, .int 2), (3, .int x3), (4, .int x4), (5, .int x5), (6, .int x6)] → (∀ (H : Heap) (locs : List Loc) (ls : Array Slot), va_P G.1 vwCl (xW G.2 ad v_latestFault v_died v_leastWeight v_noticedBy v_noticed v_orderDied v_orderLeast v_imaged v_shelves v_refusals v_ran v_bodies v_tweight v_tfright v_tage v_tasked v_told v_bestRow res.2.1 res.2.2.1 res.2.2.2.1 res.2.2.2.2.1 res.2.2.2.2.2.1 res.2.2.2.2.2.2.1 res.2.2.2.2.2.2.2.1 res.2.2.2.2.2.2.2.2 v_weight_a3 v_fright_a3 v_age_a3 v_asked_a3 v_weight_a4 v_fright_a4 v_age_a4 v_asked_a4 v_many v_pets v_last v_seed v_weight v_fright v_age v_asked v_homes v_marks v_had v_allergic v_deaths) H → va_S (nA (xWV ad)) s.heap H locs → lv_has ls 8 [(5, .int res.1)] → W p l e ({ frames := 6, cells := 0, slots := 0, locals := 133 } : Room) s m args below meth c H locs 0 0 Q (F0 m 143 ls [])) → W p l e ({ frames := 6, cells := 0, slots := 0, locals := 133 } : Room) s m args below meth c H locs 0 0 Q (F0 m 42 ls []) := by
  intro fuel
  induction fuel with
  | zero =>
    intro x5 x6 v_weight_a1 v_fright_a1 v_age_a1 v_asked_a1 v_weight_a2 v_fright_a2 v_age_a2 v_asked_a2 H locs ls hE
    exact it_n hE
  | succ fuel ih =>
    intro x5 x6 v_weight_a1 v_fright_a1 v_age_a1 v_asked_a1 v_weight_a2 v_fright_a2 v_age_a2 v_asked_a2 H locs ls hE hP hS hl hX
    rw [sC_HW_deathsIn_19_2_h42] at hE
    refine lv_iload C.1 C.2.1 dX0_deathsIn_42 (lv_at hl 6 rfl) ?_
    refine lv_aload_n C.1 C.2.1 dX0_deathsIn_44 rfl (lv_at hl 0 rfl) ?_
    refine xWg_0_6 q244 C hP dX0_deathsIn_45 ?_
    refine xWg_18_0 q182 C hP dX0_deathsIn_48 ?_
    refine lv_icmp_ge (tgt := 143) C.1 C.2.1 dX0_deathsIn_51 (by decide) (fun c4301 => ?_) (fun c4301 => ?_)
    · have hE := it_t c4301 hE
      obtain rfl := Option.some.inj hE
      exact hX H locs ls hP hS (lv_sub hl [5] rfl)
    · have hE := it_f c4301 hE
      refine lv_aload_n C.1 C.2.1 dX0_deathsIn_54 rfl (lv_at hl 0 rfl) ?_
      refine xWg_0_6 q244 C hP dX0_deathsIn_55 ?_
      refine lv_iload C.1 C.2.1 dX0_deathsIn_58 (lv_at hl 6 rfl) ?_
      obtain ⟨r4302, hr4302, hE⟩ := it_b hE
      refine n_after [18, 19, 20, 21, 22, 23, 24, 25] C.2.2.2.2.2.1 C.2.2.2.2.2.2.2.1 hP hS (va_runV (As := [.int x6]) (rest := []) ⟨C.1, C.2.1, hml, C.2.2.1, C.2.2.2.1⟩ (metC_Room_may l G (fun i => ad (18 + i)) pl _ _ _ _ _ _ _ _ _ _ _ _ _ x6  r4302 hr4302) (cwV (C := RX3) 1 C.2.2.2.1 (lw_V q1067 q972 q973 q83 q974) rfl rfl rfl (by decide +kernel) ⟨Nat.le_of_ble_eq_true rfl, Nat.le_of_ble_eq_true rfl⟩) (n_preV C hP hS [18, 19, 20, 21, 22, 23, 24, 25] sub_xW_rW_18 (by decide) rfl (va_recv C.2.2.2.2.1 hP (ci := 12) (q0 := 18) rfl rfl)) rfl rfl hl.1 rfl (lv_room (Nat.le_of_ble_eq_true rfl)) dX0_deathsIn_60 ⟨Nat.le_refl _, Nat.le_refl _⟩) xW_av rfl rfl mg_xW_rW_18 (fun H locs hP hS => ?_)
      obtain ⟨u4304, hR, hE⟩ := it_b hE
      have hJ137u4304 : ∀ (H : Heap) (locs : List Loc) (ls : Array Slot), va_P G.1 vwCl (xW G.2 ad v_latestFault v_died v_leastWeight v_noticedBy v_noticed v_orderDied v_orderLeast v_imaged v_shelves v_refusals v_ran v_bodies v_tweight v_tfright v_tage v_tasked v_told v_bestRow u4304.2.1 u4304.2.2.1 u4304.2.2.2.1 u4304.2.2.2.2.1 u4304.2.2.2.2.2.1 u4304.2.2.2.2.2.2.1 u4304.2.2.2.2.2.2.2.1 u4304.2.2.2.2.2.2.2.2 v_weight_a3 v_fright_a3 v_age_a3 v_asked_a3 v_weight_a4 v_fright_a4 v_age_a4 v_asked_a4 v_many v_pets v_last v_seed v_weight v_fright v_age v_asked v_homes v_marks v_had v_allergic v_deaths) H → va_S (nA (xWV ad)) s.heap H locs → lv_has ls 8 [(0, .ref (ad 0)), (1, .ref (ad 19)), (2, .int 2), (3, .int x3), (4, .int x4), (5, .int u4304.1), (6, .int x6)] → W p l e ({ frames := 6, cells := 0, slots := 0, locals := 133 } : Room) s m args below meth c H locs 0 0 Q (F0 m 137 ls []) := by
        intro H locs ls hP hS hl
        refine lv_iinc (v := (x6 + 1)) (lv' := [(6, .int (x6 + 1)), (0, .ref (ad 0)), (1, .ref (ad 19)), (2, .int 2), (3, .int x3), (4, .int x4), (5, .int u4304.1)]) C.1 C.2.1 dX0_deathsIn_137 hl (k := 6) rfl rfl (by decide) rfl (fun ls hl => ?_)
        refine lv_goto (tgt := 42) C.1 C.2.1 dX0_deathsIn_140 (by decide) ?_
        exact ih u4304.1 (x6 + 1) u4304.2.1 u4304.2.2.1 u4304.2.2.2.1 u4304.2.2.2.2.1 u4304.2.2.2.2.2.1 u4304.2.2.2.2.2.2.1 u4304.2.2.2.2.2.2.2.1 u4304.2.2.2.2.2.2.2.2 _ _ _ hE hP hS (lv_sub hl [1, 2, 3, 4, 5, 6, 0] rfl) hX
      have hE := hR
      refine lv_if_eq (tgt := 137) C.1 C.2.1 dX0_deathsIn_63 (by decide) (fun c4303 => ?_) (fun c4303 => ?_)
      · have hE := it_t c4303 hE
        obtain rfl := Option.some.inj hE
        exact hJ137u4304 H locs ls hP hS (lv_sub hl [0, 1, 2, 3, 4, 5, 6] rfl)
      · have hE := it_f c4303 hE
        refine lv_aload_n C.1 C.2.1 dX0_deathsIn_66 rfl (lv_at hl 0 rfl) ?_
        refine xWg_0_15 q253 C hP dX0_deathsIn_67 ?_
        refine lv_iload_n C.1 C.2.1 dX0_deathsIn_70 rfl (lv_at hl 2 rfl) ?_
        refine xWl_9 (v := some (ad 12)) C hP (gi_in (by decide)) rfl dX0_deathsIn_71 ?_
        refine lv_aload_n C.1 C.2.1 dX0_deathsIn_72 rfl (lv_at hl 1 rfl) ?_
        obtain ⟨r4305, hr4305, hE⟩ := it_b hE
        refine n_after [12, 13, 19, 20] C.2.2.2.2.2.1 C.2.2.2.2.2.2.2.1 hP hS (va_runV (As := [.ref (ad 19)]) (rest := []) ⟨C.1, C.2.1, hml, C.2.2.1, C.2.2.2.1⟩ (metC_Pet_take l G (fun i => ad (if i < 2 then 12 + i else 19 + (i - 2))) pl _ _ _ _ _ _ _ _   r4305 hr4305) (cwV (C := RX2) 1 C.2.2.2.1 (lw_V q1076 q796 q797 q82 q798) rfl rfl rfl (by decide +kernel) ⟨Nat.le_of_ble_eq_true rfl, Nat.le_of_ble_eq_true rfl⟩) (n_preV C hP hS [12, 13, 19, 20] sub_xW_ppW_12_19 (by decide) rfl (va_recv C.2.2.2.2.1 hP (ci := 11) (q0 := 12) rfl rfl)) rfl rfl hl.1 rfl (lv_room (Nat.le_of_ble_eq_true rfl)) dX0_deathsIn_73 ⟨Nat.le_refl _, Nat.le_refl _⟩) xW_av rfl rfl mg_xW_ppW_12_19 (fun H locs hP hS => ?_)
        refine lv_astore (lv' := [(7, .ref (ad 12)), (0, .ref (ad 0)), (1, .ref (ad 19)), (2, .int 2), (3, .int x3), (4, .int x4), (5, .int x5), (6, .int x6)]) C.1 C.2.1 dX0_deathsIn_76 hl (by decide) rfl (fun ls hl => ?_)
        refine lv_aload C.1 C.2.1 dX0_deathsIn_78 (lv_at hl 0 rfl) ?_
        refine lv_aload_n C.1 C.2.1 dX0_deathsIn_80 rfl (lv_at hl 1 rfl) ?_
        refine xWg_0_6 q244 C hP dX0_deathsIn_81 ?_
        refine xWg_18_5 q193 C hP dX0_deathsIn_84 ?_
        refine lv_iload C.1 C.2.1 dX0_deathsIn_87 (lv_at hl 7 rfl) ?_
        obtain ⟨g4306, hE⟩ := it_g hE
        obtain ⟨g4307, hE⟩ := it_g hE
        obtain ⟨q4308, hq43080, hq4308, hq43087⟩ := hom _ g4307
        refine xWl_21 (v := some q4308) C hP (gi_in g4306) hq43080 dX0_deathsIn_89 ?_
        obtain ⟨r4309, hr4309, hE⟩ := it_b hE
        refine n_after [12, 13] C.2.2.2.2.2.1 C.2.2.2.2.2.2.2.1 hP hS (va_runV (As := [.ref q4308]) (rest := []) ⟨C.1, C.2.1, hml, C.2.2.1, C.2.2.2.1⟩ (metC_Pet_week_H l G (fun i => ad (12 + i)) pl _ _ _ _ q4308 (hk (x6).toNatClampNeg) x6 (hb (x6).toNatClampNeg) hq43087 hq4308 r4309 hr4309) (cwV (C := RX2) 1 C.2.2.2.1 (lw_V q1082 q985 q986 q82 q987) rfl rfl rfl (by decide +kernel) ⟨Nat.le_of_ble_eq_true rfl, Nat.le_of_ble_eq_true rfl⟩) (n_preV C hP hS [12, 13] sub_xW_pW_12 (by decide) rfl (va_recv C.2.2.2.2.1 hP (ci := 11) (q0 := 12) rfl rfl)) rfl rfl hl.1 rfl (lv_room (Nat.le_of_ble_eq_true rfl)) dX0_deathsIn_90 ⟨Nat.le_refl _, Nat.le_refl _⟩) xW_av rfl rfl mg_xW_pW_12 (fun H locs hP hS => ?_)
        refine lv_iload C.1 C.2.1 dX0_deathsIn_93 (lv_at hl 6 rfl) ?_
        refine lv_aload C.1 C.2.1 dX0_deathsIn_95 (lv_at hl 0 rfl) ?_
        obtain ⟨r4310, hr4310, hE⟩ := it_b hE
        refine n_after [12, 13] C.2.2.2.2.2.1 C.2.2.2.2.2.2.2.1 hP hS (va_runV (As := []) (rest := [.int x5]) ⟨C.1, C.2.1, hml, C.2.2.1, C.2.2.2.1⟩ (metC_Pet_dies l G (fun i => ad (12 + i)) pl _ _ _ _   r4310 hr4310) (cwV (C := RX2) 0 C.2.2.2.1 (lw_V q1083 q1024 q1025 q82 q1026) rfl rfl rfl (by decide +kernel) ⟨Nat.le_of_ble_eq_true rfl, Nat.le_of_ble_eq_true rfl⟩) (n_preV C hP hS [12, 13] sub_xW_pW_12 (by decide) rfl (va_recv C.2.2.2.2.1 hP (ci := 11) (q0 := 12) rfl rfl)) rfl rfl hl.1 rfl (lv_room (Nat.le_of_ble_eq_true rfl)) dX0_deathsIn_97 ⟨Nat.le_refl _, Nat.le_refl _⟩) xW_av rfl rfl mg_xW_pW_12 (fun H locs hP hS => ?_)
        refine lv_iconst (v := (-1)) C.1 C.2.1 dX0_deathsIn_100 (by decide) ?_
        obtain ⟨u4312, hR, hE⟩ := it_b hE
        have hJ134u4312 : ∀ (H : Heap) (locs : List Loc) (ls : Array Slot), va_P G.1 vwCl (xW G.2 ad v_latestFault v_died v_leastWeight v_noticedBy v_noticed v_orderDied v_orderLeast v_imaged v_shelves v_refusals v_ran v_bodies v_tweight v_tfright v_tage v_tasked v_told v_bestRow u4312.2.1 u4312.2.2.1 u4312.2.2.2.1 u4312.2.2.2.2 r4309.1 r4309.2.1 r4309.2.2 r4305.2.2.2 v_weight_a3 v_fright_a3 v_age_a3 v_asked_a3 v_weight_a4 v_fright_a4 v_age_a4 v_asked_a4 v_many v_pets v_last v_seed v_weight v_fright v_age v_asked v_homes v_marks v_had v_allergic v_deaths) H → va_S (nA (xWV ad)) s.heap H locs → lv_has ls 8 [(0, .ref (ad 0)), (1, .ref (ad 19)), (2, .int 2), (3, .int x3), (4, .int x4), (6, .int x6)] → W p l e ({ frames := 6, cells := 0, slots := 0, locals := 133 } : Room) s m args below meth c H locs 0 0 Q (F0 m 134 ls [.int u4312.1, .int x5]) := by
          intro H locs ls hP hS hl
          refine lv_iadd C.1 C.2.1 dX0_deathsIn_134 ?_
          refine lv_istore (lv' := [(5, .int (x5 + u4312.1)), (0, .ref (ad 0)), (1, .ref (ad 19)), (2, .int 2), (3, .int x3), (4, .int x4), (6, .int x6)]) C.1 C.2.1 dX0_deathsIn_135 hl (by decide) rfl (fun ls hl => ?_)
          obtain rfl := Option.some.inj hE
          exact hJ137u4304 H locs ls hP hS (lv_sub hl [1, 2, 3, 4, 5, 0, 6] rfl)
        have hE := hR
        refine lv_icmp_ne (tgt := 117) C.1 C.2.1 dX0_deathsIn_101 (by decide) (fun c4311 => ?_) (fun c4311 => ?_)
        · have hE := it_f c4311 hE
          refine lv_iload_n C.1 C.2.1 dX0_deathsIn_117 rfl (lv_at hl 4 rfl) ?_
          refine lv_iconst (v := (-1)) C.1 C.2.1 dX0_deathsIn_118 (by decide) ?_
          refine lv_icmp_eq (tgt := 128) C.1 C.2.1 dX0_deathsIn_119 (by decide) (fun c4313 => ?_) (fun c4313 => ?_)
          · have hE := it_t c4313 hE
            refine lv_iload C.1 C.2.1 dX0_deathsIn_128 (lv_at hl 5 rfl) ?_
            refine lv_goto (tgt := 134) C.1 C.2.1 dX0_deathsIn_130 (by decide) ?_
            obtain rfl := Option.some.inj hE
            exact hJ134u4312 H locs ls hP hS (lv_sub hl [1, 2, 3, 4, 5, 7] rfl)
          · have hE := it_f c4313 hE
            refine lv_iload_n C.1 C.2.1 dX0_deathsIn_122 rfl (lv_at hl 4 rfl) ?_
            refine lv_iload C.1 C.2.1 dX0_deathsIn_123 (lv_at hl 7 rfl) ?_
            refine lv_icmp_ne (tgt := 133) C.1 C.2.1 dX0_deathsIn_125 (by decide) (fun c4314 => ?_) (fun c4314 => ?_)
            · have hE := it_f c4314 hE
              refine lv_iconst (v := 0) C.1 C.2.1 dX0_deathsIn_133 (by decide) ?_
              obtain rfl := Option.some.inj hE
              exact hJ134u4312 H locs ls hP hS (lv_sub hl [1, 2, 3, 4, 5, 7] rfl)
            · have hE := it_t c4314 hE
              refine lv_iload C.1 C.2.1 dX0_deathsIn_128 (lv_at hl 5 rfl) ?_
              refine lv_goto (tgt := 134) C.1 C.2.1 dX0_deathsIn_130 (by decide) ?_
              obtain rfl := Option.some.inj hE
              exact hJ134u4312 H locs ls hP hS (lv_sub hl [1, 2, 3, 4, 5, 7] rfl)
        · have hE := it_t c4311 hE
          refine lv_aload_n C.1 C.2.1 dX0_deathsIn_104 rfl (lv_at hl 1 rfl) ?_
          refine lv_aload C.1 C.2.1 dX0_deathsIn_105 (lv_at hl 0 rfl) ?_
          refine lv_iload_n C.1 C.2.1 dX0_deathsIn_107 rfl (lv_at hl 3 rfl) ?_
          refine lv_iconst (v := 1) C.1 C.2.1 dX0_deathsIn_108 (by decide) ?_
          refine lv_isub C.1 C.2.1 dX0_deathsIn_109 ?_
          rw [show (2 : Int32) - 1 = 1 from by decide]
          refine lv_iload_n C.1 C.2.1 dX0_deathsIn_110 rfl (lv_at hl 4 rfl) ?_
          obtain ⟨r4315, hr4315, hE⟩ := it_b hE
          refine n_afterS C.2.2.2.2.2.2.2.1 hS (va_runV (As := [.ref (ad 12), .int 1, .int x3]) (rest := [.int x5]) ⟨C.1, C.2.1, hml, C.2.2.1, C.2.2.2.1⟩ (metC_HW_deathsIn_12_1 l G ad pl hk hb _ _ _ _ _ _ _ _ _ _ _ _ _ _ _ _ _ _ _ _ _ _ _ _ _ _ _ _ _ _ _ _ _ _ _ _ _ _ _ _ _ _ _ _ _ _ _ hom x3  r4315 hr4315) (cwV (C := RX0) 3 C.2.2.2.1 (lw_V q1154 q1156 qs28 q80 q1157) rfl rfl rfl (by decide +kernel) ⟨Nat.le_of_ble_eq_true rfl, Nat.le_of_ble_eq_true rfl⟩) (n_preV0 C hP hS (va_recv C.2.2.2.2.1 hP (ci := 16) (q0 := 0) rfl rfl)) rfl rfl hl.1 rfl (lv_room (Nat.le_of_ble_eq_true rfl)) dX0_deathsIn_111 ⟨Nat.le_refl _, Nat.le_refl _⟩) (fun H locs hP hS => ?_)
          refine lv_goto (tgt := 134) C.1 C.2.1 dX0_deathsIn_114 (by decide) ?_
          obtain rfl := Option.some.inj hE
          exact hJ134u4312 H locs ls hP hS (lv_sub hl [1, 2, 3, 4, 5, 7] rfl)
set_option maxHeartbeats 4000000 in
theorem metC_HW_deathsIn_19_2 (l : Launch) (G : kG) (ad : Nat → Nat) (pl : va_W) (hk : Nat → Nat) (hb : Nat → Int32) (v_latestFault : Int32) (v_died : Int32) (v_leastWeight : Int32) (v_noticedBy : Int32) (v_noticed : Int32) (v_orderDied : Int32) (v_orderLeast : Int32) (v_imaged : Option Nat) (v_shelves : Nat → Option Nat) (v_refusals : Nat → Int32) (v_ran : Int32) (v_bodies : Nat → Int32) (v_tweight : Int32) (v_tfright : Int32) (v_tage : Int32) (v_tasked : Nat → Int32) (v_told : Nat → Int32) (v_bestRow : Nat → Int32) (v_weight_a1 : Int32) (v_fright_a1 : Int32) (v_age_a1 : Int32) (v_asked_a1 : Nat → Int32) (v_weight_a2 : Int32) (v_fright_a2 : Int32) (v_age_a2 : Int32) (v_asked_a2 : Nat → Int32) (v_weight_a3 : Int32) (v_fright_a3 : Int32) (v_age_a3 : Int32) (v_asked_a3 : Nat → Int32) (v_weight_a4 : Int32) (v_fright_a4 : Int32) (v_age_a4 : Int32) (v_asked_a4 : Nat → Int32) (v_many : Int32) (v_pets : Int32) (v_last : Int32) (v_seed : Int32) (v_weight : Int32) (v_fright : Int32) (v_age : Int32) (v_asked : Nat → Int32) (v_homes : Nat → Option Nat) (v_marks : Nat → Int32) (v_had : Nat → Int32) (v_allergic : Nat → Int32) (v_deaths : Nat → Int32) (hom : homOK v_homes v_many hk hb pl) (p3 : Int32) (res : Int32 × Int32 × Int32 × Int32 × (Nat → Int32) × Int32 × Int32 × Int32 × (Nat → Int32)) (hE : sC_HW_deathsIn_19_2 v_weight_a1 v_fright_a1 v_age_a1 v_asked_a1 v_weight_a2 v_fright_a2 v_age_a2 v_asked_a2 v_many v_weight v_fright v_age v_asked v_homes v_allergic hk hb p3 = some res) : Met l yX0_deathsIn (ws_ yX0_deathsIn cX0_deathsIn 8 (some .int)) ({ frames := 6, cells := 0, slots := 0, locals := 133 } : Room) (nPc G (xW G.2 ad v_latestFault v_died v_leastWeight v_noticedBy v_noticed v_orderDied v_orderLeast v_imaged v_shelves v_refusals v_ran v_bodies v_tweight v_tfright v_tage v_tasked v_told v_bestRow v_weight_a1 v_fright_a1 v_age_a1 v_asked_a1 v_weight_a2 v_fright_a2 v_age_a2 v_asked_a2 v_weight_a3 v_fright_a3 v_age_a3 v_asked_a3 v_weight_a4 v_fright_a4 v_age_a4 v_asked_a4 v_many v_pets v_last v_seed v_weight v_fright v_age v_asked v_homes v_marks v_had v_allergic v_deaths) pl (xWV ad) [.ref (ad 0), .ref (ad 19), .int 2, .int p3]) (nQc G (xW G.2 ad v_latestFault v_died v_leastWeight v_noticedBy v_noticed v_orderDied v_orderLeast v_imaged v_shelves v_refusals v_ran v_bodies v_tweight v_tfright v_tage v_tasked v_told v_bestRow res.2.1 res.2.2.1 res.2.2.2.1 res.2.2.2.2.1 res.2.2.2.2.2.1 res.2.2.2.2.2.2.1 res.2.2.2.2.2.2.2.1 res.2.2.2.2.2.2.2.2 v_weight_a3 v_fright_a3 v_age_a3 v_asked_a3 v_weight_a4 v_fright_a4 v_age_a4 v_asked_a4 v_many v_pets v_last v_seed v_weight v_fright v_age v_asked v_homes v_marks v_had v_allergic v_deaths) (xWV ad) (some (.int res.1))) 0 0 (nA (xWV ad)) := by
  refine n_ofW (own := RX0) (by decide) rfl (Nat.le_of_ble_eq_true rfl) ?_
  intro p e s m args below meth c ls C hml hP hS hl hr hlocks
  have hl : lv_has ls 8 [(0, .ref (ad 0)), (1, .ref (ad 19)), (2, .int 2), (3, .int p3)] := hl
  obtain ⟨Q, hQ⟩ : ∃ Q, Q = MQ below (nQc G (xW G.2 ad v_latestFault v_died v_leastWeight v_noticedBy v_noticed v_orderDied v_orderLeast v_imaged v_shelves v_refusals v_ran v_bodies v_tweight v_tfright v_tage v_tasked v_told v_bestRow res.2.1 res.2.2.1 res.2.2.2.1 res.2.2.2.2.1 res.2.2.2.2.2.1 res.2.2.2.2.2.2.1 res.2.2.2.2.2.2.2.1 res.2.2.2.2.2.2.2.2 v_weight_a3 v_fright_a3 v_age_a3 v_asked_a3 v_weight_a4 v_fright_a4 v_age_a4 v_asked_a4 v_many v_pets v_last v_seed v_weight v_fright v_age v_asked v_homes v_marks v_had v_allergic v_deaths) (xWV ad) (some (.int res.1))) args s 0 0 (nA (xWV ad)) := ⟨_, rfl⟩
  rw [← hQ]
  have hret : ∀ (pc : Nat) (ls : Array Slot) (H : Heap) (locs : List Loc), decode cX0_deathsIn pc = .ok (.ireturn, 1) → va_P G.1 vwCl (xW G.2 ad v_latestFault v_died v_leastWeight v_noticedBy v_noticed v_orderDied v_orderLeast v_imaged v_shelves v_refusals v_ran v_bodies v_tweight v_tfright v_tage v_tasked v_told v_bestRow res.2.1 res.2.2.1 res.2.2.2.1 res.2.2.2.2.1 res.2.2.2.2.2.1 res.2.2.2.2.2.2.1 res.2.2.2.2.2.2.2.1 res.2.2.2.2.2.2.2.2 v_weight_a3 v_fright_a3 v_age_a3 v_asked_a3 v_weight_a4 v_fright_a4 v_age_a4 v_asked_a4 v_many v_pets v_last v_seed v_weight v_fright v_age v_asked v_homes v_marks v_had v_allergic v_deaths) H → va_S (nA (xWV ad)) s.heap H locs → W p l e ({ frames := 6, cells := 0, slots := 0, locals := 133 } : Room) s m args below meth c H locs 0 0 Q (F0 m pc ls [(.int res.1)]) := by
    intro pc ls H locs hd hP hS
    rw [hQ]
    exact n_iret C hr hlocks hd hP hS
  clear hQ
  obtain ⟨H, hH⟩ : ∃ H, H = s.heap := ⟨_, rfl⟩
  obtain ⟨locs, hlo⟩ : ∃ locs : List Loc, locs = [] := ⟨_, rfl⟩
  have hP : va_P G.1 vwCl (xW G.2 ad v_latestFault v_died v_leastWeight v_noticedBy v_noticed v_orderDied v_orderLeast v_imaged v_shelves v_refusals v_ran v_bodies v_tweight v_tfright v_tage v_tasked v_told v_bestRow v_weight_a1 v_fright_a1 v_age_a1 v_asked_a1 v_weight_a2 v_fright_a2 v_age_a2 v_asked_a2 v_weight_a3 v_fright_a3 v_age_a3 v_asked_a3 v_weight_a4 v_fright_a4 v_age_a4 v_asked_a4 v_many v_pets v_last v_seed v_weight v_fright v_age v_asked v_homes v_marks v_had v_allergic v_deaths) H := by rw [hH]; exact hP
  have hS : va_S (nA (xWV ad)) s.heap H locs := by rw [hH, hlo]; exact hS
  suffices hZ : W p l e ({ frames := 6, cells := 0, slots := 0, locals := 133 } : Room) s m args below meth c H locs 0 0 Q (F0 m 0 ls []) by rw [hH, hlo] at hZ; exact hZ
  clear hH hlo
  unfold sC_HW_deathsIn_19_2 at hE
  refine lv_iload_n C.1 C.2.1 dX0_deathsIn_0 rfl (lv_at hl 2 rfl) ?_
  refine lv_if_ne (tgt := 6) C.1 C.2.1 dX0_deathsIn_1 (by decide) (fun c1 => ?_) (fun c1 => absurd c1 (by decide))
  refine lv_iconst (v := 1) C.1 C.2.1 dX0_deathsIn_6 (by decide) ?_
  refine lv_istore (lv' := [(4, .int 1), (0, .ref (ad 0)), (1, .ref (ad 19)), (2, .int 2), (3, .int p3)]) C.1 C.2.1 dX0_deathsIn_7 hl (by decide) rfl (fun ls hl => ?_)
  refine lv_iconst (v := 1) C.1 C.2.1 dX0_deathsIn_9 (by decide) ?_
  refine lv_istore (lv' := [(5, .int 1), (4, .int 1), (0, .ref (ad 0)), (1, .ref (ad 19)), (2, .int 2), (3, .int p3)]) C.1 C.2.1 dX0_deathsIn_10 hl (by decide) rfl (fun ls hl => ?_)
  obtain ⟨u2, hu2, hE⟩ := it_b hE
  refine wC_HW_deathsIn_19_2_h12 C hml  hom p3 u2 2000 1 1 H locs ls hu2 hP hS (lv_sub hl [2, 3, 4, 5, 1, 0] rfl) (fun H locs ls hP hS hl => ?_)
  refine lv_iconst (v := 0) C.1 C.2.1 dX0_deathsIn_36 (by decide) ?_
  refine lv_istore (lv' := [(5, .int 0), (0, .ref (ad 0)), (1, .ref (ad 19)), (2, .int 2), (3, .int p3), (4, .int u2)]) C.1 C.2.1 dX0_deathsIn_37 hl (by decide) rfl (fun ls hl => ?_)
  refine lv_iconst (v := 0) C.1 C.2.1 dX0_deathsIn_39 (by decide) ?_
  refine lv_istore (lv' := [(6, .int 0), (5, .int 0), (0, .ref (ad 0)), (1, .ref (ad 19)), (2, .int 2), (3, .int p3), (4, .int u2)]) C.1 C.2.1 dX0_deathsIn_40 hl (by decide) rfl (fun ls hl => ?_)
  obtain ⟨u3, hu3, hE⟩ := it_b hE
  refine wC_HW_deathsIn_19_2_h42 C hml  hom p3 u2 u3 2000 0 0 v_weight_a1 v_fright_a1 v_age_a1 v_asked_a1 v_weight_a2 v_fright_a2 v_age_a2 v_asked_a2 H locs ls hu3 hP hS (lv_sub hl [2, 3, 4, 5, 6, 1, 0] rfl) (fun H locs ls hP hS hl => ?_)
  refine lv_iload C.1 C.2.1 dX0_deathsIn_143 (lv_at hl 0 rfl) ?_
  obtain rfl := Option.some.inj hE
  exact hret _ _ _ _ dX0_deathsIn_145 hP hS
def sC_HW_deathsIn_14_2_h12 (v_many : Int32) (v_allergic : Nat → Int32) : Nat → Int32 → Int32 → Option (Int32)
  | 0, _, _ => none
  | fuel + 1, x4, x5 =>
    if 2 ≤ x5 then
      some x4
    else
      (sC_Room_mayMany v_many v_allergic).bind fun r1302 =>
      sC_HW_deathsIn_14_2_h12 v_many v_allergic fuel (x4 * r1302) (x5 + 1)
def sC_HW_deathsIn_14_2_h42 (x3 : Int32) (x4 : Int32) (v_weight_a3 : Int32) (v_fright_a3 : Int32) (v_age_a3 : Int32) (v_asked_a3 : Nat → Int32) (v_many : Int32) (v_homes : Nat → Option Nat) (v_allergic : Nat → Int32) (hk : Nat → Nat) (hb : Nat → Int32) : Nat → Int32 → Int32 → Int32 → Int32 → Int32 → (Nat → Int32) → Int32 → Int32 → Int32 → (Nat → Int32) → Option (Int32 × Int32 × Int32 × Int32 × (Nat → Int32) × Int32 × Int32 × Int32 × (Nat → Int32))
  | 0, _, _, _, _, _, _, _, _, _, _ => none
  | fuel + 1, x5, x6, v_weight_a1, v_fright_a1, v_age_a1, v_asked_a1, v_weight_a2, v_fright_a2, v_age_a2, v_asked_a2 =>
    if v_many ≤ x6 then
      some (x5, v_weight_a1, v_fright_a1, v_age_a1, v_asked_a1, v_weight_a2, v_fright_a2, v_age_a2, v_asked_a2)
    else
      (sC_Room_may v_many v_allergic x6).bind fun r4302 =>
      @Option.bind (Int32 × Int32 × Int32 × Int32 × (Nat → Int32) × Int32 × Int32 × Int32 × (Nat → Int32)) _ (
        if r4302 = 0 then
          some (x5, v_weight_a1, v_fright_a1, v_age_a1, v_asked_a1, v_weight_a2, v_fright_a2, v_age_a2, v_asked_a2)
        else
          (sC_Pet_take v_weight_a2 v_fright_a2 v_age_a2 v_asked_a2 v_weight_a3 v_fright_a3 v_age_a3 v_asked_a3).bind fun r4305 =>
          if gi x6 8 then
          if gm x6 v_many then
          (sC_Pet_week_H r4305.1 r4305.2.1 r4305.2.2.1 r4305.2.2.2 (hk (x6).toNatClampNeg) x6 (hb (x6).toNatClampNeg)).bind fun r4309 =>
          (sC_Pet_dies r4309.1 r4309.2.1 r4309.2.2 r4305.2.2.2).bind fun r4310 =>
          @Option.bind (Int32 × Int32 × Int32 × Int32 × (Nat → Int32)) _ (
            if r4310 = (-1) then
              (sC_HW_deathsIn_12_1 v_weight_a1 v_fright_a1 v_age_a1 v_asked_a1 r4309.1 r4309.2.1 r4309.2.2 r4305.2.2.2 v_many v_homes v_allergic hk hb x3).bind fun r4315 =>
              some (r4315.1, r4315.2.1, r4315.2.2.1, r4315.2.2.2.1, r4315.2.2.2.2)
            else
              if x3 = (-1) then
                some (x4, v_weight_a1, v_fright_a1, v_age_a1, v_asked_a1)
              else
                if x3 = x6 then
                  some (x4, v_weight_a1, v_fright_a1, v_age_a1, v_asked_a1)
                else
                  some (0, v_weight_a1, v_fright_a1, v_age_a1, v_asked_a1)) fun u4312 =>
          some ((x5 + u4312.1), u4312.2.1, u4312.2.2.1, u4312.2.2.2.1, u4312.2.2.2.2, r4309.1, r4309.2.1, r4309.2.2, r4305.2.2.2)
          else none
          else none) fun u4304 =>
      sC_HW_deathsIn_14_2_h42 x3 x4 v_weight_a3 v_fright_a3 v_age_a3 v_asked_a3 v_many v_homes v_allergic hk hb fuel u4304.1 (x6 + 1) u4304.2.1 u4304.2.2.1 u4304.2.2.2.1 u4304.2.2.2.2.1 u4304.2.2.2.2.2.1 u4304.2.2.2.2.2.2.1 u4304.2.2.2.2.2.2.2.1 u4304.2.2.2.2.2.2.2.2
def sC_HW_deathsIn_14_2 (v_weight_a1 : Int32) (v_fright_a1 : Int32) (v_age_a1 : Int32) (v_asked_a1 : Nat → Int32) (v_weight_a2 : Int32) (v_fright_a2 : Int32) (v_age_a2 : Int32) (v_asked_a2 : Nat → Int32) (v_weight_a3 : Int32) (v_fright_a3 : Int32) (v_age_a3 : Int32) (v_asked_a3 : Nat → Int32) (v_many : Int32) (v_homes : Nat → Option Nat) (v_allergic : Nat → Int32) (hk : Nat → Nat) (hb : Nat → Int32) (p3 : Int32) : Option (Int32 × Int32 × Int32 × Int32 × (Nat → Int32) × Int32 × Int32 × Int32 × (Nat → Int32)) :=
  (sC_HW_deathsIn_14_2_h12 v_many v_allergic 2000 1 1).bind fun u2 =>
  (sC_HW_deathsIn_14_2_h42 p3 u2 v_weight_a3 v_fright_a3 v_age_a3 v_asked_a3 v_many v_homes v_allergic hk hb 2000 0 0 v_weight_a1 v_fright_a1 v_age_a1 v_asked_a1 v_weight_a2 v_fright_a2 v_age_a2 v_asked_a2).bind fun u3 =>
  some (u3.1, u3.2.1, u3.2.2.1, u3.2.2.2.1, u3.2.2.2.2.1, u3.2.2.2.2.2.1, u3.2.2.2.2.2.2.1, u3.2.2.2.2.2.2.2.1, u3.2.2.2.2.2.2.2.2)
set_option maxHeartbeats 4000000 in
theorem wC_HW_deathsIn_14_2_h12 {p : Program} {l : Launch} {e : Env} {s : State} {m : MethodId} {args : Array Value} {below : List Frame} {meth : Method} {c : Code} {Q : State → Prop} {G : kG} {ad : Nat → Nat} {pl : va_W} {hk : Nat → Nat} {hb : Nat → Int32} {v_latestFault : Int32} {v_died : Int32} {v_leastWeight : Int32} {v_noticedBy : Int32} {v_noticed : Int32} {v_orderDied : Int32} {v_orderLeast : Int32} {v_imaged : Option Nat} {v_shelves : Nat → Option Nat} {v_refusals : Nat → Int32} {v_ran : Int32} {v_bodies : Nat → Int32} {v_tweight : Int32} {v_tfright : Int32} {v_tage : Int32} {v_tasked : Nat → Int32} {v_told : Nat → Int32} {v_bestRow : Nat → Int32} {v_weight_a1 : Int32} {v_fright_a1 : Int32} {v_age_a1 : Int32} {v_asked_a1 : Nat → Int32} {v_weight_a2 : Int32} {v_fright_a2 : Int32} {v_age_a2 : Int32} {v_asked_a2 : Nat → Int32} {v_weight_a3 : Int32} {v_fright_a3 : Int32} {v_age_a3 : Int32} {v_asked_a3 : Nat → Int32} {v_weight_a4 : Int32} {v_fright_a4 : Int32} {v_age_a4 : Int32} {v_asked_a4 : Nat → Int32} {v_many : Int32} {v_pets : Int32} {v_last : Int32} {v_seed : Int32} {v_weight : Int32} {v_fright : Int32} {v_age : Int32} {v_asked : Nat → Int32} {v_homes : Nat → Option Nat} {v_marks : Nat → Int32} {v_had : Nat → Int32} {v_allergic : Nat → Int32} {v_deaths : Nat → Int32} (C : nC p s m args c cX0_deathsIn RX0 G (xWV ad) pl (nA (xWV ad))) (hml : c.maxLocals = 8)  (hom : homOK v_homes v_many hk hb pl) (x3 : Int32) (res : Int32) :
    ∀ (fuel : Nat) (x4 : Int32) (x5 : Int32) (H : Heap) (locs : List Loc) (ls : Array Slot), sC_HW_deathsIn_14_2_h12 v_many v_allergic fuel x4 x5 = some res → va_P G.1 vwCl (xW G.2 ad v_latestFault v_died v_leastWeight v_noticedBy v_noticed v_orderDied v_orderLeast v_imaged v_shelves v_refusals v_ran v_bodies v_tweight v_tfright v_tage v_tasked v_told v_bestRow v_weight_a1 v_fright_a1 v_age_a1 v_asked_a1 v_weight_a2 v_fright_a2 v_age_a2 v_asked_a2 v_weight_a3 v_fright_a3 v_age_a3 v_asked_a3 v_weight_a4 v_fright_a4 v_age_a4 v_asked_a4 v_many v_pets v_last v_seed v_weight v_fright v_age v_asked v_homes v_marks v_had v_allergic v_deaths) H → va_S (nA (xWV ad)) s.heap H locs → lv_has ls 8 [(0, .ref (ad 0)), (1, .ref (ad 14)), (2, .int 2), (3, .int x3), (4, .int x4), (5, .int x5)] → (∀ (H : Heap) (locs : List Loc) (ls : Array Slot), va_P G.1 vwCl (xW G.2 ad v_latestFault v_died v_leastWeight v_noticedBy v_noticed v_orderDied v_orderLeast v_imaged v_shelves v_refusals v_ran v_bodies v_tweight v_tfright v_tage v_tasked v_told v_bestRow v_weight_a1 v_fright_a1 v_age_a1 v_asked_a1 v_weight_a2 v_fright_a2 v_age_a2 v_asked_a2 v_weight_a3 v_fright_a3 v_age_a3 v_asked_a3 v_weight_a4 v_fright_a4 v_age_a4 v_asked_a4 v_many v_pets v_last v_seed v_weight v_fright v_age v_asked v_homes v_marks v_had v_allergic v_deaths) H → va_S (nA (xWV ad)) s.heap H locs → lv_has ls 8 [(0, .ref (ad 0)), (1, .ref (ad 14)), (2, .int 2), (3, .int x3), (4, .int res)] → W p l e ({ frames := 6, cells := 0, slots := 0, locals := 133 } : Room) s m args below meth c H locs 0 0 Q (F0 m 36 ls [])) → W p l e ({ frames := 6, cells := 0, slots := 0, locals := 133 } : Room) s m args below meth c H locs 0 0 Q (F0 m 12 ls []) := by
  intro fuel
  induction fuel with
  | zero =>
    intro x4 x5 H locs ls hE
    exact it_n hE
  | succ fuel ih =>
    intro x4 x5 H locs ls hE hP hS hl hX
    rw [sC_HW_deathsIn_14_2_h12] at hE
    refine lv_iload C.1 C.2.1 dX0_deathsIn_12 (lv_at hl 5 rfl) ?_
    refine lv_iload_n C.1 C.2.1 dX0_deathsIn_14 rfl (lv_at hl 2 rfl) ?_
    refine lv_icmp_ge (tgt := 36) C.1 C.2.1 dX0_deathsIn_15 (by decide) (fun c1301 => ?_) (fun c1301 => ?_)
    · have hE := it_t c1301 hE
      obtain rfl := Option.some.inj hE
      exact hX H locs ls hP hS (lv_sub hl [0, 1, 2, 3, 4] rfl)
    · have hE := it_f c1301 hE
      refine lv_iload C.1 C.2.1 dX0_deathsIn_18 (lv_at hl 4 rfl) ?_
      refine lv_aload_n C.1 C.2.1 dX0_deathsIn_20 rfl (lv_at hl 0 rfl) ?_
      refine xWg_0_6 q244 C hP dX0_deathsIn_21 ?_
      obtain ⟨r1302, hr1302, hE⟩ := it_b hE
      refine n_after [18, 19, 20, 21, 22, 23, 24, 25] C.2.2.2.2.2.1 C.2.2.2.2.2.2.2.1 hP hS (va_runV (As := []) (rest := [.int x4]) ⟨C.1, C.2.1, hml, C.2.2.1, C.2.2.2.1⟩ (metC_Room_mayMany l G (fun i => ad (18 + i)) pl _ _ _ _ _ _ _ _ _ _ _ _ _   r1302 hr1302) (cwV (C := RX3) 0 C.2.2.2.1 (lw_V q1113 q1114 q1115 q83 q1116) rfl rfl rfl (by decide +kernel) ⟨Nat.le_of_ble_eq_true rfl, Nat.le_of_ble_eq_true rfl⟩) (n_preV C hP hS [18, 19, 20, 21, 22, 23, 24, 25] sub_xW_rW_18 (by decide) rfl (va_recv C.2.2.2.2.1 hP (ci := 12) (q0 := 18) rfl rfl)) rfl rfl hl.1 rfl (lv_room (Nat.le_of_ble_eq_true rfl)) dX0_deathsIn_24 ⟨Nat.le_refl _, Nat.le_refl _⟩) xW_av rfl rfl mg_xW_rW_18 (fun H locs hP hS => ?_)
      refine lv_imul C.1 C.2.1 dX0_deathsIn_27 ?_
      refine lv_istore (lv' := [(4, .int (x4 * r1302)), (0, .ref (ad 0)), (1, .ref (ad 14)), (2, .int 2), (3, .int x3), (5, .int x5)]) C.1 C.2.1 dX0_deathsIn_28 hl (by decide) rfl (fun ls hl => ?_)
      refine lv_iinc (v := (x5 + 1)) (lv' := [(5, .int (x5 + 1)), (4, .int (x4 * r1302)), (0, .ref (ad 0)), (1, .ref (ad 14)), (2, .int 2), (3, .int x3)]) C.1 C.2.1 dX0_deathsIn_30 hl (k := 5) rfl rfl (by decide) rfl (fun ls hl => ?_)
      refine lv_goto (tgt := 12) C.1 C.2.1 dX0_deathsIn_33 (by decide) ?_
      exact ih (x4 * r1302) (x5 + 1) _ _ _ hE hP hS (lv_sub hl [2, 3, 4, 5, 1, 0] rfl) hX
set_option maxHeartbeats 4000000 in
theorem wC_HW_deathsIn_14_2_h42 {p : Program} {l : Launch} {e : Env} {s : State} {m : MethodId} {args : Array Value} {below : List Frame} {meth : Method} {c : Code} {Q : State → Prop} {G : kG} {ad : Nat → Nat} {pl : va_W} {hk : Nat → Nat} {hb : Nat → Int32} {v_latestFault : Int32} {v_died : Int32} {v_leastWeight : Int32} {v_noticedBy : Int32} {v_noticed : Int32} {v_orderDied : Int32} {v_orderLeast : Int32} {v_imaged : Option Nat} {v_shelves : Nat → Option Nat} {v_refusals : Nat → Int32} {v_ran : Int32} {v_bodies : Nat → Int32} {v_tweight : Int32} {v_tfright : Int32} {v_tage : Int32} {v_tasked : Nat → Int32} {v_told : Nat → Int32} {v_bestRow : Nat → Int32} {v_weight_a3 : Int32} {v_fright_a3 : Int32} {v_age_a3 : Int32} {v_asked_a3 : Nat → Int32} {v_weight_a4 : Int32} {v_fright_a4 : Int32} {v_age_a4 : Int32} {v_asked_a4 : Nat → Int32} {v_many : Int32} {v_pets : Int32} {v_last : Int32} {v_seed : Int32} {v_weight : Int32} {v_fright : Int32} {v_age : Int32} {v_asked : Nat → Int32} {v_homes : Nat → Option Nat} {v_marks : Nat → Int32} {v_had : Nat → Int32} {v_allergic : Nat → Int32} {v_deaths : Nat → Int32} (C : nC p s m args c cX0_deathsIn RX0 G (xWV ad) pl (nA (xWV ad))) (hml : c.maxLocals = 8)  (hom : homOK v_homes v_many hk hb pl) (x3 : Int32) (x4 : Int32) (res : Int32 × Int32 × Int32 × Int32 × (Nat → Int32) × Int32 × Int32 × Int32 × (Nat → Int32)) :
    ∀ (fuel : Nat) (x5 : Int32) (x6 : Int32) (v_weight_a1 : Int32) (v_fright_a1 : Int32) (v_age_a1 : Int32) (v_asked_a1 : Nat → Int32) (v_weight_a2 : Int32) (v_fright_a2 : Int32) (v_age_a2 : Int32) (v_asked_a2 : Nat → Int32) (H : Heap) (locs : List Loc) (ls : Array Slot), sC_HW_deathsIn_14_2_h42 x3 x4 v_weight_a3 v_fright_a3 v_age_a3 v_asked_a3 v_many v_homes v_allergic hk hb fuel x5 x6 v_weight_a1 v_fright_a1 v_age_a1 v_asked_a1 v_weight_a2 v_fright_a2 v_age_a2 v_asked_a2 = some res → va_P G.1 vwCl (xW G.2 ad v_latestFault v_died v_leastWeight v_noticedBy v_noticed v_orderDied v_orderLeast v_imaged v_shelves v_refusals v_ran v_bodies v_tweight v_tfright v_tage v_tasked v_told v_bestRow v_weight_a1 v_fright_a1 v_age_a1 v_asked_a1 v_weight_a2 v_fright_a2 v_age_a2 v_asked_a2 v_weight_a3 v_fright_a3 v_age_a3 v_asked_a3 v_weight_a4 v_fright_a4 v_age_a4 v_asked_a4 v_many v_pets v_last v_seed v_weight v_fright v_age v_asked v_homes v_marks v_had v_allergic v_deaths) H → va_S (nA (xWV ad)) s.heap H locs → lv_has ls 8 [(0, .ref (ad 0)), (1, .ref (ad 14)), (2, .int 2), (3, .int x3), (4, .int x4), (5, .int x5), (6, .int x6)] → (∀ (H : Heap) (locs : List Loc) (ls : Array Slot), va_P G.1 vwCl (xW G.2 ad v_latestFault v_died v_leastWeight v_noticedBy v_noticed v_orderDied v_orderLeast v_imaged v_shelves v_refusals v_ran v_bodies v_tweight v_tfright v_tage v_tasked v_told v_bestRow res.2.1 res.2.2.1 res.2.2.2.1 res.2.2.2.2.1 res.2.2.2.2.2.1 res.2.2.2.2.2.2.1 res.2.2.2.2.2.2.2.1 res.2.2.2.2.2.2.2.2 v_weight_a3 v_fright_a3 v_age_a3 v_asked_a3 v_weight_a4 v_fright_a4 v_age_a4 v_asked_a4 v_many v_pets v_last v_seed v_weight v_fright v_age v_asked v_homes v_marks v_had v_allergic v_deaths) H → va_S (nA (xWV ad)) s.heap H locs → lv_has ls 8 [(5, .int res.1)] → W p l e ({ frames := 6, cells := 0, slots := 0, locals := 133 } : Room) s m args below meth c H locs 0 0 Q (F0 m 143 ls [])) → W p l e ({ frames := 6, cells := 0, slots := 0, locals := 133 } : Room) s m args below meth c H locs 0 0 Q (F0 m 42 ls []) := by
  intro fuel
  induction fuel with
  | zero =>
    intro x5 x6 v_weight_a1 v_fright_a1 v_age_a1 v_asked_a1 v_weight_a2 v_fright_a2 v_age_a2 v_asked_a2 H locs ls hE
    exact it_n hE
  | succ fuel ih =>
    intro x5 x6 v_weight_a1 v_fright_a1 v_age_a1 v_asked_a1 v_weight_a2 v_fright_a2 v_age_a2 v_asked_a2 H locs ls hE hP hS hl hX
    rw [sC_HW_deathsIn_14_2_h42] at hE
    refine lv_iload C.1 C.2.1 dX0_deathsIn_42 (lv_at hl 6 rfl) ?_
    refine lv_aload_n C.1 C.2.1 dX0_deathsIn_44 rfl (lv_at hl 0 rfl) ?_
    refine xWg_0_6 q244 C hP dX0_deathsIn_45 ?_
    refine xWg_18_0 q182 C hP dX0_deathsIn_48 ?_
    refine lv_icmp_ge (tgt := 143) C.1 C.2.1 dX0_deathsIn_51 (by decide) (fun c4301 => ?_) (fun c4301 => ?_)
    · have hE := it_t c4301 hE
      obtain rfl := Option.some.inj hE
      exact hX H locs ls hP hS (lv_sub hl [5] rfl)
    · have hE := it_f c4301 hE
      refine lv_aload_n C.1 C.2.1 dX0_deathsIn_54 rfl (lv_at hl 0 rfl) ?_
      refine xWg_0_6 q244 C hP dX0_deathsIn_55 ?_
      refine lv_iload C.1 C.2.1 dX0_deathsIn_58 (lv_at hl 6 rfl) ?_
      obtain ⟨r4302, hr4302, hE⟩ := it_b hE
      refine n_after [18, 19, 20, 21, 22, 23, 24, 25] C.2.2.2.2.2.1 C.2.2.2.2.2.2.2.1 hP hS (va_runV (As := [.int x6]) (rest := []) ⟨C.1, C.2.1, hml, C.2.2.1, C.2.2.2.1⟩ (metC_Room_may l G (fun i => ad (18 + i)) pl _ _ _ _ _ _ _ _ _ _ _ _ _ x6  r4302 hr4302) (cwV (C := RX3) 1 C.2.2.2.1 (lw_V q1067 q972 q973 q83 q974) rfl rfl rfl (by decide +kernel) ⟨Nat.le_of_ble_eq_true rfl, Nat.le_of_ble_eq_true rfl⟩) (n_preV C hP hS [18, 19, 20, 21, 22, 23, 24, 25] sub_xW_rW_18 (by decide) rfl (va_recv C.2.2.2.2.1 hP (ci := 12) (q0 := 18) rfl rfl)) rfl rfl hl.1 rfl (lv_room (Nat.le_of_ble_eq_true rfl)) dX0_deathsIn_60 ⟨Nat.le_refl _, Nat.le_refl _⟩) xW_av rfl rfl mg_xW_rW_18 (fun H locs hP hS => ?_)
      obtain ⟨u4304, hR, hE⟩ := it_b hE
      have hJ137u4304 : ∀ (H : Heap) (locs : List Loc) (ls : Array Slot), va_P G.1 vwCl (xW G.2 ad v_latestFault v_died v_leastWeight v_noticedBy v_noticed v_orderDied v_orderLeast v_imaged v_shelves v_refusals v_ran v_bodies v_tweight v_tfright v_tage v_tasked v_told v_bestRow u4304.2.1 u4304.2.2.1 u4304.2.2.2.1 u4304.2.2.2.2.1 u4304.2.2.2.2.2.1 u4304.2.2.2.2.2.2.1 u4304.2.2.2.2.2.2.2.1 u4304.2.2.2.2.2.2.2.2 v_weight_a3 v_fright_a3 v_age_a3 v_asked_a3 v_weight_a4 v_fright_a4 v_age_a4 v_asked_a4 v_many v_pets v_last v_seed v_weight v_fright v_age v_asked v_homes v_marks v_had v_allergic v_deaths) H → va_S (nA (xWV ad)) s.heap H locs → lv_has ls 8 [(0, .ref (ad 0)), (1, .ref (ad 14)), (2, .int 2), (3, .int x3), (4, .int x4), (5, .int u4304.1), (6, .int x6)] → W p l e ({ frames := 6, cells := 0, slots := 0, locals := 133 } : Room) s m args below meth c H locs 0 0 Q (F0 m 137 ls []) := by
        intro H locs ls hP hS hl
        refine lv_iinc (v := (x6 + 1)) (lv' := [(6, .int (x6 + 1)), (0, .ref (ad 0)), (1, .ref (ad 14)), (2, .int 2), (3, .int x3), (4, .int x4), (5, .int u4304.1)]) C.1 C.2.1 dX0_deathsIn_137 hl (k := 6) rfl rfl (by decide) rfl (fun ls hl => ?_)
        refine lv_goto (tgt := 42) C.1 C.2.1 dX0_deathsIn_140 (by decide) ?_
        exact ih u4304.1 (x6 + 1) u4304.2.1 u4304.2.2.1 u4304.2.2.2.1 u4304.2.2.2.2.1 u4304.2.2.2.2.2.1 u4304.2.2.2.2.2.2.1 u4304.2.2.2.2.2.2.2.1 u4304.2.2.2.2.2.2.2.2 _ _ _ hE hP hS (lv_sub hl [1, 2, 3, 4, 5, 6, 0] rfl) hX
      have hE := hR
      refine lv_if_eq (tgt := 137) C.1 C.2.1 dX0_deathsIn_63 (by decide) (fun c4303 => ?_) (fun c4303 => ?_)
      · have hE := it_t c4303 hE
        obtain rfl := Option.some.inj hE
        exact hJ137u4304 H locs ls hP hS (lv_sub hl [0, 1, 2, 3, 4, 5, 6] rfl)
      · have hE := it_f c4303 hE
        refine lv_aload_n C.1 C.2.1 dX0_deathsIn_66 rfl (lv_at hl 0 rfl) ?_
        refine xWg_0_15 q253 C hP dX0_deathsIn_67 ?_
        refine lv_iload_n C.1 C.2.1 dX0_deathsIn_70 rfl (lv_at hl 2 rfl) ?_
        refine xWl_9 (v := some (ad 12)) C hP (gi_in (by decide)) rfl dX0_deathsIn_71 ?_
        refine lv_aload_n C.1 C.2.1 dX0_deathsIn_72 rfl (lv_at hl 1 rfl) ?_
        obtain ⟨r4305, hr4305, hE⟩ := it_b hE
        refine n_after [12, 13, 14, 15] C.2.2.2.2.2.1 C.2.2.2.2.2.2.2.1 hP hS (va_runV (As := [.ref (ad 14)]) (rest := []) ⟨C.1, C.2.1, hml, C.2.2.1, C.2.2.2.1⟩ (metC_Pet_take l G (fun i => ad (12 + i)) pl _ _ _ _ _ _ _ _   r4305 hr4305) (cwV (C := RX2) 1 C.2.2.2.1 (lw_V q1076 q796 q797 q82 q798) rfl rfl rfl (by decide +kernel) ⟨Nat.le_of_ble_eq_true rfl, Nat.le_of_ble_eq_true rfl⟩) (n_preV C hP hS [12, 13, 14, 15] sub_xW_ppW_12_14 (by decide) rfl (va_recv C.2.2.2.2.1 hP (ci := 11) (q0 := 12) rfl rfl)) rfl rfl hl.1 rfl (lv_room (Nat.le_of_ble_eq_true rfl)) dX0_deathsIn_73 ⟨Nat.le_refl _, Nat.le_refl _⟩) xW_av rfl rfl mg_xW_ppW_12_14 (fun H locs hP hS => ?_)
        refine lv_astore (lv' := [(7, .ref (ad 12)), (0, .ref (ad 0)), (1, .ref (ad 14)), (2, .int 2), (3, .int x3), (4, .int x4), (5, .int x5), (6, .int x6)]) C.1 C.2.1 dX0_deathsIn_76 hl (by decide) rfl (fun ls hl => ?_)
        refine lv_aload C.1 C.2.1 dX0_deathsIn_78 (lv_at hl 0 rfl) ?_
        refine lv_aload_n C.1 C.2.1 dX0_deathsIn_80 rfl (lv_at hl 1 rfl) ?_
        refine xWg_0_6 q244 C hP dX0_deathsIn_81 ?_
        refine xWg_18_5 q193 C hP dX0_deathsIn_84 ?_
        refine lv_iload C.1 C.2.1 dX0_deathsIn_87 (lv_at hl 7 rfl) ?_
        obtain ⟨g4306, hE⟩ := it_g hE
        obtain ⟨g4307, hE⟩ := it_g hE
        obtain ⟨q4308, hq43080, hq4308, hq43087⟩ := hom _ g4307
        refine xWl_21 (v := some q4308) C hP (gi_in g4306) hq43080 dX0_deathsIn_89 ?_
        obtain ⟨r4309, hr4309, hE⟩ := it_b hE
        refine n_after [12, 13] C.2.2.2.2.2.1 C.2.2.2.2.2.2.2.1 hP hS (va_runV (As := [.ref q4308]) (rest := []) ⟨C.1, C.2.1, hml, C.2.2.1, C.2.2.2.1⟩ (metC_Pet_week_H l G (fun i => ad (12 + i)) pl _ _ _ _ q4308 (hk (x6).toNatClampNeg) x6 (hb (x6).toNatClampNeg) hq43087 hq4308 r4309 hr4309) (cwV (C := RX2) 1 C.2.2.2.1 (lw_V q1082 q985 q986 q82 q987) rfl rfl rfl (by decide +kernel) ⟨Nat.le_of_ble_eq_true rfl, Nat.le_of_ble_eq_true rfl⟩) (n_preV C hP hS [12, 13] sub_xW_pW_12 (by decide) rfl (va_recv C.2.2.2.2.1 hP (ci := 11) (q0 := 12) rfl rfl)) rfl rfl hl.1 rfl (lv_room (Nat.le_of_ble_eq_true rfl)) dX0_deathsIn_90 ⟨Nat.le_refl _, Nat.le_refl _⟩) xW_av rfl rfl mg_xW_pW_12 (fun H locs hP hS => ?_)
        refine lv_iload C.1 C.2.1 dX0_deathsIn_93 (lv_at hl 6 rfl) ?_
        refine lv_aload C.1 C.2.1 dX0_deathsIn_95 (lv_at hl 0 rfl) ?_
        obtain ⟨r4310, hr4310, hE⟩ := it_b hE
        refine n_after [12, 13] C.2.2.2.2.2.1 C.2.2.2.2.2.2.2.1 hP hS (va_runV (As := []) (rest := [.int x5]) ⟨C.1, C.2.1, hml, C.2.2.1, C.2.2.2.1⟩ (metC_Pet_dies l G (fun i => ad (12 + i)) pl _ _ _ _   r4310 hr4310) (cwV (C := RX2) 0 C.2.2.2.1 (lw_V q1083 q1024 q1025 q82 q1026) rfl rfl rfl (by decide +kernel) ⟨Nat.le_of_ble_eq_true rfl, Nat.le_of_ble_eq_true rfl⟩) (n_preV C hP hS [12, 13] sub_xW_pW_12 (by decide) rfl (va_recv C.2.2.2.2.1 hP (ci := 11) (q0 := 12) rfl rfl)) rfl rfl hl.1 rfl (lv_room (Nat.le_of_ble_eq_true rfl)) dX0_deathsIn_97 ⟨Nat.le_refl _, Nat.le_refl _⟩) xW_av rfl rfl mg_xW_pW_12 (fun H locs hP hS => ?_)
        refine lv_iconst (v := (-1)) C.1 C.2.1 dX0_deathsIn_100 (by decide) ?_
        obtain ⟨u4312, hR, hE⟩ := it_b hE
        have hJ134u4312 : ∀ (H : Heap) (locs : List Loc) (ls : Array Slot), va_P G.1 vwCl (xW G.2 ad v_latestFault v_died v_leastWeight v_noticedBy v_noticed v_orderDied v_orderLeast v_imaged v_shelves v_refusals v_ran v_bodies v_tweight v_tfright v_tage v_tasked v_told v_bestRow u4312.2.1 u4312.2.2.1 u4312.2.2.2.1 u4312.2.2.2.2 r4309.1 r4309.2.1 r4309.2.2 r4305.2.2.2 v_weight_a3 v_fright_a3 v_age_a3 v_asked_a3 v_weight_a4 v_fright_a4 v_age_a4 v_asked_a4 v_many v_pets v_last v_seed v_weight v_fright v_age v_asked v_homes v_marks v_had v_allergic v_deaths) H → va_S (nA (xWV ad)) s.heap H locs → lv_has ls 8 [(0, .ref (ad 0)), (1, .ref (ad 14)), (2, .int 2), (3, .int x3), (4, .int x4), (6, .int x6)] → W p l e ({ frames := 6, cells := 0, slots := 0, locals := 133 } : Room) s m args below meth c H locs 0 0 Q (F0 m 134 ls [.int u4312.1, .int x5]) := by
          intro H locs ls hP hS hl
          refine lv_iadd C.1 C.2.1 dX0_deathsIn_134 ?_
          refine lv_istore (lv' := [(5, .int (x5 + u4312.1)), (0, .ref (ad 0)), (1, .ref (ad 14)), (2, .int 2), (3, .int x3), (4, .int x4), (6, .int x6)]) C.1 C.2.1 dX0_deathsIn_135 hl (by decide) rfl (fun ls hl => ?_)
          obtain rfl := Option.some.inj hE
          exact hJ137u4304 H locs ls hP hS (lv_sub hl [1, 2, 3, 4, 5, 0, 6] rfl)
        have hE := hR
        refine lv_icmp_ne (tgt := 117) C.1 C.2.1 dX0_deathsIn_101 (by decide) (fun c4311 => ?_) (fun c4311 => ?_)
        · have hE := it_f c4311 hE
          refine lv_iload_n C.1 C.2.1 dX0_deathsIn_117 rfl (lv_at hl 4 rfl) ?_
          refine lv_iconst (v := (-1)) C.1 C.2.1 dX0_deathsIn_118 (by decide) ?_
          refine lv_icmp_eq (tgt := 128) C.1 C.2.1 dX0_deathsIn_119 (by decide) (fun c4313 => ?_) (fun c4313 => ?_)
          · have hE := it_t c4313 hE
            refine lv_iload C.1 C.2.1 dX0_deathsIn_128 (lv_at hl 5 rfl) ?_
            refine lv_goto (tgt := 134) C.1 C.2.1 dX0_deathsIn_130 (by decide) ?_
            obtain rfl := Option.some.inj hE
            exact hJ134u4312 H locs ls hP hS (lv_sub hl [1, 2, 3, 4, 5, 7] rfl)
          · have hE := it_f c4313 hE
            refine lv_iload_n C.1 C.2.1 dX0_deathsIn_122 rfl (lv_at hl 4 rfl) ?_
            refine lv_iload C.1 C.2.1 dX0_deathsIn_123 (lv_at hl 7 rfl) ?_
            refine lv_icmp_ne (tgt := 133) C.1 C.2.1 dX0_deathsIn_125 (by decide) (fun c4314 => ?_) (fun c4314 => ?_)
            · have hE := it_f c4314 hE
              refine lv_iconst (v := 0) C.1 C.2.1 dX0_deathsIn_133 (by decide) ?_
              obtain rfl := Option.some.inj hE
              exact hJ134u4312 H locs ls hP hS (lv_sub hl [1, 2, 3, 4, 5, 7] rfl)
            · have hE := it_t c4314 hE
              refine lv_iload C.1 C.2.1 dX0_deathsIn_128 (lv_at hl 5 rfl) ?_
              refine lv_goto (tgt := 134) C.1 C.2.1 dX0_deathsIn_130 (by decide) ?_
              obtain rfl := Option.some.inj hE
              exact hJ134u4312 H locs ls hP hS (lv_sub hl [1, 2, 3, 4, 5, 7] rfl)
        · have hE := it_t c4311 hE
          refine lv_aload_n C.1 C.2.1 dX0_deathsIn_104 rfl (lv_at hl 1 rfl) ?_
          refine lv_aload C.1 C.2.1 dX0_deathsIn_105 (lv_at hl 0 rfl) ?_
          refine lv_iload_n C.1 C.2.1 dX0_deathsIn_107 rfl (lv_at hl 3 rfl) ?_
          refine lv_iconst (v := 1) C.1 C.2.1 dX0_deathsIn_108 (by decide) ?_
          refine lv_isub C.1 C.2.1 dX0_deathsIn_109 ?_
          rw [show (2 : Int32) - 1 = 1 from by decide]
          refine lv_iload_n C.1 C.2.1 dX0_deathsIn_110 rfl (lv_at hl 4 rfl) ?_
          obtain ⟨r4315, hr4315, hE⟩ := it_b hE
          refine n_afterS C.2.2.2.2.2.2.2.1 hS (va_runV (As := [.ref (ad 12), .int 1, .int x3]) (rest := [.int x5]) ⟨C.1, C.2.1, hml, C.2.2.1, C.2.2.2.1⟩ (metC_HW_deathsIn_12_1 l G ad pl hk hb _ _ _ _ _ _ _ _ _ _ _ _ _ _ _ _ _ _ _ _ _ _ _ _ _ _ _ _ _ _ _ _ _ _ _ _ _ _ _ _ _ _ _ _ _ _ _ hom x3  r4315 hr4315) (cwV (C := RX0) 3 C.2.2.2.1 (lw_V q1154 q1156 qs28 q80 q1157) rfl rfl rfl (by decide +kernel) ⟨Nat.le_of_ble_eq_true rfl, Nat.le_of_ble_eq_true rfl⟩) (n_preV0 C hP hS (va_recv C.2.2.2.2.1 hP (ci := 16) (q0 := 0) rfl rfl)) rfl rfl hl.1 rfl (lv_room (Nat.le_of_ble_eq_true rfl)) dX0_deathsIn_111 ⟨Nat.le_refl _, Nat.le_refl _⟩) (fun H locs hP hS => ?_)
          refine lv_goto (tgt := 134) C.1 C.2.1 dX0_deathsIn_114 (by decide) ?_
          obtain rfl := Option.some.inj hE
          exact hJ134u4312 H locs ls hP hS (lv_sub hl [1, 2, 3, 4, 5, 7] rfl)
set_option maxHeartbeats 4000000 in
theorem metC_HW_deathsIn_14_2 (l : Launch) (G : kG) (ad : Nat → Nat) (pl : va_W) (hk : Nat → Nat) (hb : Nat → Int32) (v_latestFault : Int32) (v_died : Int32) (v_leastWeight : Int32) (v_noticedBy : Int32) (v_noticed : Int32) (v_orderDied : Int32) (v_orderLeast : Int32) (v_imaged : Option Nat) (v_shelves : Nat → Option Nat) (v_refusals : Nat → Int32) (v_ran : Int32) (v_bodies : Nat → Int32) (v_tweight : Int32) (v_tfright : Int32) (v_tage : Int32) (v_tasked : Nat → Int32) (v_told : Nat → Int32) (v_bestRow : Nat → Int32) (v_weight_a1 : Int32) (v_fright_a1 : Int32) (v_age_a1 : Int32) (v_asked_a1 : Nat → Int32) (v_weight_a2 : Int32) (v_fright_a2 : Int32) (v_age_a2 : Int32) (v_asked_a2 : Nat → Int32) (v_weight_a3 : Int32) (v_fright_a3 : Int32) (v_age_a3 : Int32) (v_asked_a3 : Nat → Int32) (v_weight_a4 : Int32) (v_fright_a4 : Int32) (v_age_a4 : Int32) (v_asked_a4 : Nat → Int32) (v_many : Int32) (v_pets : Int32) (v_last : Int32) (v_seed : Int32) (v_weight : Int32) (v_fright : Int32) (v_age : Int32) (v_asked : Nat → Int32) (v_homes : Nat → Option Nat) (v_marks : Nat → Int32) (v_had : Nat → Int32) (v_allergic : Nat → Int32) (v_deaths : Nat → Int32) (hom : homOK v_homes v_many hk hb pl) (p3 : Int32) (res : Int32 × Int32 × Int32 × Int32 × (Nat → Int32) × Int32 × Int32 × Int32 × (Nat → Int32)) (hE : sC_HW_deathsIn_14_2 v_weight_a1 v_fright_a1 v_age_a1 v_asked_a1 v_weight_a2 v_fright_a2 v_age_a2 v_asked_a2 v_weight_a3 v_fright_a3 v_age_a3 v_asked_a3 v_many v_homes v_allergic hk hb p3 = some res) : Met l yX0_deathsIn (ws_ yX0_deathsIn cX0_deathsIn 8 (some .int)) ({ frames := 6, cells := 0, slots := 0, locals := 133 } : Room) (nPc G (xW G.2 ad v_latestFault v_died v_leastWeight v_noticedBy v_noticed v_orderDied v_orderLeast v_imaged v_shelves v_refusals v_ran v_bodies v_tweight v_tfright v_tage v_tasked v_told v_bestRow v_weight_a1 v_fright_a1 v_age_a1 v_asked_a1 v_weight_a2 v_fright_a2 v_age_a2 v_asked_a2 v_weight_a3 v_fright_a3 v_age_a3 v_asked_a3 v_weight_a4 v_fright_a4 v_age_a4 v_asked_a4 v_many v_pets v_last v_seed v_weight v_fright v_age v_asked v_homes v_marks v_had v_allergic v_deaths) pl (xWV ad) [.ref (ad 0), .ref (ad 14), .int 2, .int p3]) (nQc G (xW G.2 ad v_latestFault v_died v_leastWeight v_noticedBy v_noticed v_orderDied v_orderLeast v_imaged v_shelves v_refusals v_ran v_bodies v_tweight v_tfright v_tage v_tasked v_told v_bestRow res.2.1 res.2.2.1 res.2.2.2.1 res.2.2.2.2.1 res.2.2.2.2.2.1 res.2.2.2.2.2.2.1 res.2.2.2.2.2.2.2.1 res.2.2.2.2.2.2.2.2 v_weight_a3 v_fright_a3 v_age_a3 v_asked_a3 v_weight_a4 v_fright_a4 v_age_a4 v_asked_a4 v_many v_pets v_last v_seed v_weight v_fright v_age v_asked v_homes v_marks v_had v_allergic v_deaths) (xWV ad) (some (.int res.1))) 0 0 (nA (xWV ad)) := by
  refine n_ofW (own := RX0) (by decide) rfl (Nat.le_of_ble_eq_true rfl) ?_
  intro p e s m args below meth c ls C hml hP hS hl hr hlocks
  have hl : lv_has ls 8 [(0, .ref (ad 0)), (1, .ref (ad 14)), (2, .int 2), (3, .int p3)] := hl
  obtain ⟨Q, hQ⟩ : ∃ Q, Q = MQ below (nQc G (xW G.2 ad v_latestFault v_died v_leastWeight v_noticedBy v_noticed v_orderDied v_orderLeast v_imaged v_shelves v_refusals v_ran v_bodies v_tweight v_tfright v_tage v_tasked v_told v_bestRow res.2.1 res.2.2.1 res.2.2.2.1 res.2.2.2.2.1 res.2.2.2.2.2.1 res.2.2.2.2.2.2.1 res.2.2.2.2.2.2.2.1 res.2.2.2.2.2.2.2.2 v_weight_a3 v_fright_a3 v_age_a3 v_asked_a3 v_weight_a4 v_fright_a4 v_age_a4 v_asked_a4 v_many v_pets v_last v_seed v_weight v_fright v_age v_asked v_homes v_marks v_had v_allergic v_deaths) (xWV ad) (some (.int res.1))) args s 0 0 (nA (xWV ad)) := ⟨_, rfl⟩
  rw [← hQ]
  have hret : ∀ (pc : Nat) (ls : Array Slot) (H : Heap) (locs : List Loc), decode cX0_deathsIn pc = .ok (.ireturn, 1) → va_P G.1 vwCl (xW G.2 ad v_latestFault v_died v_leastWeight v_noticedBy v_noticed v_orderDied v_orderLeast v_imaged v_shelves v_refusals v_ran v_bodies v_tweight v_tfright v_tage v_tasked v_told v_bestRow res.2.1 res.2.2.1 res.2.2.2.1 res.2.2.2.2.1 res.2.2.2.2.2.1 res.2.2.2.2.2.2.1 res.2.2.2.2.2.2.2.1 res.2.2.2.2.2.2.2.2 v_weight_a3 v_fright_a3 v_age_a3 v_asked_a3 v_weight_a4 v_fright_a4 v_age_a4 v_asked_a4 v_many v_pets v_last v_seed v_weight v_fright v_age v_asked v_homes v_marks v_had v_allergic v_deaths) H → va_S (nA (xWV ad)) s.heap H locs → W p l e ({ frames := 6, cells := 0, slots := 0, locals := 133 } : Room) s m args below meth c H locs 0 0 Q (F0 m pc ls [(.int res.1)]) := by
    intro pc ls H locs hd hP hS
    rw [hQ]
    exact n_iret C hr hlocks hd hP hS
  clear hQ
  obtain ⟨H, hH⟩ : ∃ H, H = s.heap := ⟨_, rfl⟩
  obtain ⟨locs, hlo⟩ : ∃ locs : List Loc, locs = [] := ⟨_, rfl⟩
  have hP : va_P G.1 vwCl (xW G.2 ad v_latestFault v_died v_leastWeight v_noticedBy v_noticed v_orderDied v_orderLeast v_imaged v_shelves v_refusals v_ran v_bodies v_tweight v_tfright v_tage v_tasked v_told v_bestRow v_weight_a1 v_fright_a1 v_age_a1 v_asked_a1 v_weight_a2 v_fright_a2 v_age_a2 v_asked_a2 v_weight_a3 v_fright_a3 v_age_a3 v_asked_a3 v_weight_a4 v_fright_a4 v_age_a4 v_asked_a4 v_many v_pets v_last v_seed v_weight v_fright v_age v_asked v_homes v_marks v_had v_allergic v_deaths) H := by rw [hH]; exact hP
  have hS : va_S (nA (xWV ad)) s.heap H locs := by rw [hH, hlo]; exact hS
  suffices hZ : W p l e ({ frames := 6, cells := 0, slots := 0, locals := 133 } : Room) s m args below meth c H locs 0 0 Q (F0 m 0 ls []) by rw [hH, hlo] at hZ; exact hZ
  clear hH hlo
  unfold sC_HW_deathsIn_14_2 at hE
  refine lv_iload_n C.1 C.2.1 dX0_deathsIn_0 rfl (lv_at hl 2 rfl) ?_
  refine lv_if_ne (tgt := 6) C.1 C.2.1 dX0_deathsIn_1 (by decide) (fun c1 => ?_) (fun c1 => absurd c1 (by decide))
  refine lv_iconst (v := 1) C.1 C.2.1 dX0_deathsIn_6 (by decide) ?_
  refine lv_istore (lv' := [(4, .int 1), (0, .ref (ad 0)), (1, .ref (ad 14)), (2, .int 2), (3, .int p3)]) C.1 C.2.1 dX0_deathsIn_7 hl (by decide) rfl (fun ls hl => ?_)
  refine lv_iconst (v := 1) C.1 C.2.1 dX0_deathsIn_9 (by decide) ?_
  refine lv_istore (lv' := [(5, .int 1), (4, .int 1), (0, .ref (ad 0)), (1, .ref (ad 14)), (2, .int 2), (3, .int p3)]) C.1 C.2.1 dX0_deathsIn_10 hl (by decide) rfl (fun ls hl => ?_)
  obtain ⟨u2, hu2, hE⟩ := it_b hE
  refine wC_HW_deathsIn_14_2_h12 C hml  hom p3 u2 2000 1 1 H locs ls hu2 hP hS (lv_sub hl [2, 3, 4, 5, 1, 0] rfl) (fun H locs ls hP hS hl => ?_)
  refine lv_iconst (v := 0) C.1 C.2.1 dX0_deathsIn_36 (by decide) ?_
  refine lv_istore (lv' := [(5, .int 0), (0, .ref (ad 0)), (1, .ref (ad 14)), (2, .int 2), (3, .int p3), (4, .int u2)]) C.1 C.2.1 dX0_deathsIn_37 hl (by decide) rfl (fun ls hl => ?_)
  refine lv_iconst (v := 0) C.1 C.2.1 dX0_deathsIn_39 (by decide) ?_
  refine lv_istore (lv' := [(6, .int 0), (5, .int 0), (0, .ref (ad 0)), (1, .ref (ad 14)), (2, .int 2), (3, .int p3), (4, .int u2)]) C.1 C.2.1 dX0_deathsIn_40 hl (by decide) rfl (fun ls hl => ?_)
  obtain ⟨u3, hu3, hE⟩ := it_b hE
  refine wC_HW_deathsIn_14_2_h42 C hml  hom p3 u2 u3 2000 0 0 v_weight_a1 v_fright_a1 v_age_a1 v_asked_a1 v_weight_a2 v_fright_a2 v_age_a2 v_asked_a2 H locs ls hu3 hP hS (lv_sub hl [2, 3, 4, 5, 6, 1, 0] rfl) (fun H locs ls hP hS hl => ?_)
  refine lv_iload C.1 C.2.1 dX0_deathsIn_143 (lv_at hl 0 rfl) ?_
  obtain rfl := Option.some.inj hE
  exact hret _ _ _ _ dX0_deathsIn_145 hP hS
def sC_HW_deathsIn_19_3_h12 (v_many : Int32) (v_allergic : Nat → Int32) : Nat → Int32 → Int32 → Option (Int32)
  | 0, _, _ => none
  | fuel + 1, x4, x5 =>
    if 3 ≤ x5 then
      some x4
    else
      (sC_Room_mayMany v_many v_allergic).bind fun r1302 =>
      sC_HW_deathsIn_19_3_h12 v_many v_allergic fuel (x4 * r1302) (x5 + 1)
def sC_HW_deathsIn_19_3_h42 (x3 : Int32) (x4 : Int32) (v_many : Int32) (v_weight : Int32) (v_fright : Int32) (v_age : Int32) (v_asked : Nat → Int32) (v_homes : Nat → Option Nat) (v_allergic : Nat → Int32) (hk : Nat → Nat) (hb : Nat → Int32) : Nat → Int32 → Int32 → Int32 → Int32 → Int32 → (Nat → Int32) → Int32 → Int32 → Int32 → (Nat → Int32) → Int32 → Int32 → Int32 → (Nat → Int32) → Option (Int32 × Int32 × Int32 × Int32 × (Nat → Int32) × Int32 × Int32 × Int32 × (Nat → Int32) × Int32 × Int32 × Int32 × (Nat → Int32))
  | 0, _, _, _, _, _, _, _, _, _, _, _, _, _, _ => none
  | fuel + 1, x5, x6, v_weight_a1, v_fright_a1, v_age_a1, v_asked_a1, v_weight_a2, v_fright_a2, v_age_a2, v_asked_a2, v_weight_a3, v_fright_a3, v_age_a3, v_asked_a3 =>
    if v_many ≤ x6 then
      some (x5, v_weight_a1, v_fright_a1, v_age_a1, v_asked_a1, v_weight_a2, v_fright_a2, v_age_a2, v_asked_a2, v_weight_a3, v_fright_a3, v_age_a3, v_asked_a3)
    else
      (sC_Room_may v_many v_allergic x6).bind fun r4302 =>
      @Option.bind (Int32 × Int32 × Int32 × Int32 × (Nat → Int32) × Int32 × Int32 × Int32 × (Nat → Int32) × Int32 × Int32 × Int32 × (Nat → Int32)) _ (
        if r4302 = 0 then
          some (x5, v_weight_a1, v_fright_a1, v_age_a1, v_asked_a1, v_weight_a2, v_fright_a2, v_age_a2, v_asked_a2, v_weight_a3, v_fright_a3, v_age_a3, v_asked_a3)
        else
          (sC_Pet_take v_weight_a3 v_fright_a3 v_age_a3 v_asked_a3 v_weight v_fright v_age v_asked).bind fun r4305 =>
          if gi x6 8 then
          if gm x6 v_many then
          (sC_Pet_week_H r4305.1 r4305.2.1 r4305.2.2.1 r4305.2.2.2 (hk (x6).toNatClampNeg) x6 (hb (x6).toNatClampNeg)).bind fun r4309 =>
          (sC_Pet_dies r4309.1 r4309.2.1 r4309.2.2 r4305.2.2.2).bind fun r4310 =>
          @Option.bind (Int32 × Int32 × Int32 × Int32 × (Nat → Int32) × Int32 × Int32 × Int32 × (Nat → Int32)) _ (
            if r4310 = (-1) then
              (sC_HW_deathsIn_14_2 v_weight_a1 v_fright_a1 v_age_a1 v_asked_a1 v_weight_a2 v_fright_a2 v_age_a2 v_asked_a2 r4309.1 r4309.2.1 r4309.2.2 r4305.2.2.2 v_many v_homes v_allergic hk hb x3).bind fun r4315 =>
              some (r4315.1, r4315.2.1, r4315.2.2.1, r4315.2.2.2.1, r4315.2.2.2.2.1, r4315.2.2.2.2.2.1, r4315.2.2.2.2.2.2.1, r4315.2.2.2.2.2.2.2.1, r4315.2.2.2.2.2.2.2.2)
            else
              if x3 = (-1) then
                some (x4, v_weight_a1, v_fright_a1, v_age_a1, v_asked_a1, v_weight_a2, v_fright_a2, v_age_a2, v_asked_a2)
              else
                if x3 = x6 then
                  some (x4, v_weight_a1, v_fright_a1, v_age_a1, v_asked_a1, v_weight_a2, v_fright_a2, v_age_a2, v_asked_a2)
                else
                  some (0, v_weight_a1, v_fright_a1, v_age_a1, v_asked_a1, v_weight_a2, v_fright_a2, v_age_a2, v_asked_a2)) fun u4312 =>
          some ((x5 + u4312.1), u4312.2.1, u4312.2.2.1, u4312.2.2.2.1, u4312.2.2.2.2.1, u4312.2.2.2.2.2.1, u4312.2.2.2.2.2.2.1, u4312.2.2.2.2.2.2.2.1, u4312.2.2.2.2.2.2.2.2, r4309.1, r4309.2.1, r4309.2.2, r4305.2.2.2)
          else none
          else none) fun u4304 =>
      sC_HW_deathsIn_19_3_h42 x3 x4 v_many v_weight v_fright v_age v_asked v_homes v_allergic hk hb fuel u4304.1 (x6 + 1) u4304.2.1 u4304.2.2.1 u4304.2.2.2.1 u4304.2.2.2.2.1 u4304.2.2.2.2.2.1 u4304.2.2.2.2.2.2.1 u4304.2.2.2.2.2.2.2.1 u4304.2.2.2.2.2.2.2.2.1 u4304.2.2.2.2.2.2.2.2.2.1 u4304.2.2.2.2.2.2.2.2.2.2.1 u4304.2.2.2.2.2.2.2.2.2.2.2.1 u4304.2.2.2.2.2.2.2.2.2.2.2.2
def sC_HW_deathsIn_19_3 (v_weight_a1 : Int32) (v_fright_a1 : Int32) (v_age_a1 : Int32) (v_asked_a1 : Nat → Int32) (v_weight_a2 : Int32) (v_fright_a2 : Int32) (v_age_a2 : Int32) (v_asked_a2 : Nat → Int32) (v_weight_a3 : Int32) (v_fright_a3 : Int32) (v_age_a3 : Int32) (v_asked_a3 : Nat → Int32) (v_many : Int32) (v_weight : Int32) (v_fright : Int32) (v_age : Int32) (v_asked : Nat → Int32) (v_homes : Nat → Option Nat) (v_allergic : Nat → Int32) (hk : Nat → Nat) (hb : Nat → Int32) (p3 : Int32) : Option (Int32 × Int32 × Int32 × Int32 × (Nat → Int32) × Int32 × Int32 × Int32 × (Nat → Int32) × Int32 × Int32 × Int32 × (Nat → Int32)) :=
  (sC_HW_deathsIn_19_3_h12 v_many v_allergic 2000 1 1).bind fun u2 =>
  (sC_HW_deathsIn_19_3_h42 p3 u2 v_many v_weight v_fright v_age v_asked v_homes v_allergic hk hb 2000 0 0 v_weight_a1 v_fright_a1 v_age_a1 v_asked_a1 v_weight_a2 v_fright_a2 v_age_a2 v_asked_a2 v_weight_a3 v_fright_a3 v_age_a3 v_asked_a3).bind fun u3 =>
  some (u3.1, u3.2.1, u3.2.2.1, u3.2.2.2.1, u3.2.2.2.2.1, u3.2.2.2.2.2.1, u3.2.2.2.2.2.2.1, u3.2.2.2.2.2.2.2.1, u3.2.2.2.2.2.2.2.2.1, u3.2.2.2.2.2.2.2.2.2.1, u3.2.2.2.2.2.2.2.2.2.2.1, u3.2.2.2.2.2.2.2.2.2.2.2.1, u3.2.2.2.2.2.2.2.2.2.2.2.2)
set_option maxHeartbeats 4000000 in
theorem wC_HW_deathsIn_19_3_h12 {p : Program} {l : Launch} {e : Env} {s : State} {m : MethodId} {args : Array Value} {below : List Frame} {meth : Method} {c : Code} {Q : State → Prop} {G : kG} {ad : Nat → Nat} {pl : va_W} {hk : Nat → Nat} {hb : Nat → Int32} {v_latestFault : Int32} {v_died : Int32} {v_leastWeight : Int32} {v_noticedBy : Int32} {v_noticed : Int32} {v_orderDied : Int32} {v_orderLeast : Int32} {v_imaged : Option Nat} {v_shelves : Nat → Option Nat} {v_refusals : Nat → Int32} {v_ran : Int32} {v_bodies : Nat → Int32} {v_tweight : Int32} {v_tfright : Int32} {v_tage : Int32} {v_tasked : Nat → Int32} {v_told : Nat → Int32} {v_bestRow : Nat → Int32} {v_weight_a1 : Int32} {v_fright_a1 : Int32} {v_age_a1 : Int32} {v_asked_a1 : Nat → Int32} {v_weight_a2 : Int32} {v_fright_a2 : Int32} {v_age_a2 : Int32} {v_asked_a2 : Nat → Int32} {v_weight_a3 : Int32} {v_fright_a3 : Int32} {v_age_a3 : Int32} {v_asked_a3 : Nat → Int32} {v_weight_a4 : Int32} {v_fright_a4 : Int32} {v_age_a4 : Int32} {v_asked_a4 : Nat → Int32} {v_many : Int32} {v_pets : Int32} {v_last : Int32} {v_seed : Int32} {v_weight : Int32} {v_fright : Int32} {v_age : Int32} {v_asked : Nat → Int32} {v_homes : Nat → Option Nat} {v_marks : Nat → Int32} {v_had : Nat → Int32} {v_allergic : Nat → Int32} {v_deaths : Nat → Int32} (C : nC p s m args c cX0_deathsIn RX0 G (xWV ad) pl (nA (xWV ad))) (hml : c.maxLocals = 8)  (hom : homOK v_homes v_many hk hb pl) (x3 : Int32) (res : Int32) :
    ∀ (fuel : Nat) (x4 : Int32) (x5 : Int32) (H : Heap) (locs : List Loc) (ls : Array Slot), sC_HW_deathsIn_19_3_h12 v_many v_allergic fuel x4 x5 = some res → va_P G.1 vwCl (xW G.2 ad v_latestFault v_died v_leastWeight v_noticedBy v_noticed v_orderDied v_orderLeast v_imaged v_shelves v_refusals v_ran v_bodies v_tweight v_tfright v_tage v_tasked v_told v_bestRow v_weight_a1 v_fright_a1 v_age_a1 v_asked_a1 v_weight_a2 v_fright_a2 v_age_a2 v_asked_a2 v_weight_a3 v_fright_a3 v_age_a3 v_asked_a3 v_weight_a4 v_fright_a4 v_age_a4 v_asked_a4 v_many v_pets v_last v_seed v_weight v_fright v_age v_asked v_homes v_marks v_had v_allergic v_deaths) H → va_S (nA (xWV ad)) s.heap H locs → lv_has ls 8 [(0, .ref (ad 0)), (1, .ref (ad 19)), (2, .int 3), (3, .int x3), (4, .int x4), (5, .int x5)] → (∀ (H : Heap) (locs : List Loc) (ls : Array Slot), va_P G.1 vwCl (xW G.2 ad v_latestFault v_died v_leastWeight v_noticedBy v_noticed v_orderDied v_orderLeast v_imaged v_shelves v_refusals v_ran v_bodies v_tweight v_tfright v_tage v_tasked v_told v_bestRow v_weight_a1 v_fright_a1 v_age_a1 v_asked_a1 v_weight_a2 v_fright_a2 v_age_a2 v_asked_a2 v_weight_a3 v_fright_a3 v_age_a3 v_asked_a3 v_weight_a4 v_fright_a4 v_age_a4 v_asked_a4 v_many v_pets v_last v_seed v_weight v_fright v_age v_asked v_homes v_marks v_had v_allergic v_deaths) H → va_S (nA (xWV ad)) s.heap H locs → lv_has ls 8 [(0, .ref (ad 0)), (1, .ref (ad 19)), (2, .int 3), (3, .int x3), (4, .int res)] → W p l e ({ frames := 7, cells := 0, slots := 0, locals := 160 } : Room) s m args below meth c H locs 0 0 Q (F0 m 36 ls [])) → W p l e ({ frames := 7, cells := 0, slots := 0, locals := 160 } : Room) s m args below meth c H locs 0 0 Q (F0 m 12 ls []) := by
  intro fuel
  induction fuel with
  | zero =>
    intro x4 x5 H locs ls hE
    exact it_n hE
  | succ fuel ih =>
    intro x4 x5 H locs ls hE hP hS hl hX
    rw [sC_HW_deathsIn_19_3_h12] at hE
    refine lv_iload C.1 C.2.1 dX0_deathsIn_12 (lv_at hl 5 rfl) ?_
    refine lv_iload_n C.1 C.2.1 dX0_deathsIn_14 rfl (lv_at hl 2 rfl) ?_
    refine lv_icmp_ge (tgt := 36) C.1 C.2.1 dX0_deathsIn_15 (by decide) (fun c1301 => ?_) (fun c1301 => ?_)
    · have hE := it_t c1301 hE
      obtain rfl := Option.some.inj hE
      exact hX H locs ls hP hS (lv_sub hl [0, 1, 2, 3, 4] rfl)
    · have hE := it_f c1301 hE
      refine lv_iload C.1 C.2.1 dX0_deathsIn_18 (lv_at hl 4 rfl) ?_
      refine lv_aload_n C.1 C.2.1 dX0_deathsIn_20 rfl (lv_at hl 0 rfl) ?_
      refine xWg_0_6 q244 C hP dX0_deathsIn_21 ?_
      obtain ⟨r1302, hr1302, hE⟩ := it_b hE
      refine n_after [18, 19, 20, 21, 22, 23, 24, 25] C.2.2.2.2.2.1 C.2.2.2.2.2.2.2.1 hP hS (va_runV (As := []) (rest := [.int x4]) ⟨C.1, C.2.1, hml, C.2.2.1, C.2.2.2.1⟩ (metC_Room_mayMany l G (fun i => ad (18 + i)) pl _ _ _ _ _ _ _ _ _ _ _ _ _   r1302 hr1302) (cwV (C := RX3) 0 C.2.2.2.1 (lw_V q1113 q1114 q1115 q83 q1116) rfl rfl rfl (by decide +kernel) ⟨Nat.le_of_ble_eq_true rfl, Nat.le_of_ble_eq_true rfl⟩) (n_preV C hP hS [18, 19, 20, 21, 22, 23, 24, 25] sub_xW_rW_18 (by decide) rfl (va_recv C.2.2.2.2.1 hP (ci := 12) (q0 := 18) rfl rfl)) rfl rfl hl.1 rfl (lv_room (Nat.le_of_ble_eq_true rfl)) dX0_deathsIn_24 ⟨Nat.le_refl _, Nat.le_refl _⟩) xW_av rfl rfl mg_xW_rW_18 (fun H locs hP hS => ?_)
      refine lv_imul C.1 C.2.1 dX0_deathsIn_27 ?_
      refine lv_istore (lv' := [(4, .int (x4 * r1302)), (0, .ref (ad 0)), (1, .ref (ad 19)), (2, .int 3), (3, .int x3), (5, .int x5)]) C.1 C.2.1 dX0_deathsIn_28 hl (by decide) rfl (fun ls hl => ?_)
      refine lv_iinc (v := (x5 + 1)) (lv' := [(5, .int (x5 + 1)), (4, .int (x4 * r1302)), (0, .ref (ad 0)), (1, .ref (ad 19)), (2, .int 3), (3, .int x3)]) C.1 C.2.1 dX0_deathsIn_30 hl (k := 5) rfl rfl (by decide) rfl (fun ls hl => ?_)
      refine lv_goto (tgt := 12) C.1 C.2.1 dX0_deathsIn_33 (by decide) ?_
      exact ih (x4 * r1302) (x5 + 1) _ _ _ hE hP hS (lv_sub hl [2, 3, 4, 5, 1, 0] rfl) hX
set_option maxHeartbeats 4000000 in
theorem wC_HW_deathsIn_19_3_h42 {p : Program} {l : Launch} {e : Env} {s : State} {m : MethodId} {args : Array Value} {below : List Frame} {meth : Method} {c : Code} {Q : State → Prop} {G : kG} {ad : Nat → Nat} {pl : va_W} {hk : Nat → Nat} {hb : Nat → Int32} {v_latestFault : Int32} {v_died : Int32} {v_leastWeight : Int32} {v_noticedBy : Int32} {v_noticed : Int32} {v_orderDied : Int32} {v_orderLeast : Int32} {v_imaged : Option Nat} {v_shelves : Nat → Option Nat} {v_refusals : Nat → Int32} {v_ran : Int32} {v_bodies : Nat → Int32} {v_tweight : Int32} {v_tfright : Int32} {v_tage : Int32} {v_tasked : Nat → Int32} {v_told : Nat → Int32} {v_bestRow : Nat → Int32} {v_weight_a4 : Int32} {v_fright_a4 : Int32} {v_age_a4 : Int32} {v_asked_a4 : Nat → Int32} {v_many : Int32} {v_pets : Int32} {v_last : Int32} {v_seed : Int32} {v_weight : Int32} {v_fright : Int32} {v_age : Int32} {v_asked : Nat → Int32} {v_homes : Nat → Option Nat} {v_marks : Nat → Int32} {v_had : Nat → Int32} {v_allergic : Nat → Int32} {v_deaths : Nat → Int32} (C : nC p s m args c cX0_deathsIn RX0 G (xWV ad) pl (nA (xWV ad))) (hml : c.maxLocals = 8)  (hom : homOK v_homes v_many hk hb pl) (x3 : Int32) (x4 : Int32) (res : Int32 × Int32 × Int32 × Int32 × (Nat → Int32) × Int32 × Int32 × Int32 × (Nat → Int32) × Int32 × Int32 × Int32 × (Nat → Int32)) :
    ∀ (fuel : Nat) (x5 : Int32) (x6 : Int32) (v_weight_a1 : Int32) (v_fright_a1 : Int32) (v_age_a1 : Int32) (v_asked_a1 : Nat → Int32) (v_weight_a2 : Int32) (v_fright_a2 : Int32) (v_age_a2 : Int32) (v_asked_a2 : Nat → Int32) (v_weight_a3 : Int32) (v_fright_a3 : Int32) (v_age_a3 : Int32) (v_asked_a3 : Nat → Int32) (H : Heap) (locs : List Loc) (ls : Array Slot), sC_HW_deathsIn_19_3_h42 x3 x4 v_many v_weight v_fright v_age v_asked v_homes v_allergic hk hb fuel x5 x6 v_weight_a1 v_fright_a1 v_age_a1 v_asked_a1 v_weight_a2 v_fright_a2 v_age_a2 v_asked_a2 v_weight_a3 v_fright_a3 v_age_a3 v_asked_a3 = some res → va_P G.1 vwCl (xW G.2 ad v_latestFault v_died v_leastWeight v_noticedBy v_noticed v_orderDied v_orderLeast v_imaged v_shelves v_refusals v_ran v_bodies v_tweight v_tfright v_tage v_tasked v_told v_bestRow v_weight_a1 v_fright_a1 v_age_a1 v_asked_a1 v_weight_a2 v_fright_a2 v_age_a2 v_asked_a2 v_weight_a3 v_fright_a3 v_age_a3 v_asked_a3 v_weight_a4 v_fright_a4 v_age_a4 v_asked_a4 v_many v_pets v_last v_seed v_weight v_fright v_age v_asked v_homes v_marks v_had v_allergic v_deaths) H → va_S (nA (xWV ad)) s.heap H locs → lv_has ls 8 [(0, .ref (ad 0)), (1, .ref (ad 19)), (2, .int 3), (3, .int x3), (4, .int x4), (5, .int x5), (6, .int x6)] → (∀ (H : Heap) (locs : List Loc) (ls : Array Slot), va_P G.1 vwCl (xW G.2 ad v_latestFault v_died v_leastWeight v_noticedBy v_noticed v_orderDied v_orderLeast v_imaged v_shelves v_refusals v_ran v_bodies v_tweight v_tfright v_tage v_tasked v_told v_bestRow res.2.1 res.2.2.1 res.2.2.2.1 res.2.2.2.2.1 res.2.2.2.2.2.1 res.2.2.2.2.2.2.1 res.2.2.2.2.2.2.2.1 res.2.2.2.2.2.2.2.2.1 res.2.2.2.2.2.2.2.2.2.1 res.2.2.2.2.2.2.2.2.2.2.1 res.2.2.2.2.2.2.2.2.2.2.2.1 res.2.2.2.2.2.2.2.2.2.2.2.2 v_weight_a4 v_fright_a4 v_age_a4 v_asked_a4 v_many v_pets v_last v_seed v_weight v_fright v_age v_asked v_homes v_marks v_had v_allergic v_deaths) H → va_S (nA (xWV ad)) s.heap H locs → lv_has ls 8 [(5, .int res.1)] → W p l e ({ frames := 7, cells := 0, slots := 0, locals := 160 } : Room) s m args below meth c H locs 0 0 Q (F0 m 143 ls [])) → W p l e ({ frames := 7, cells := 0, slots := 0, locals := 160 } : Room) s m args below meth c H locs 0 0 Q (F0 m 42 ls []) := by
  intro fuel
  induction fuel with
  | zero =>
    intro x5 x6 v_weight_a1 v_fright_a1 v_age_a1 v_asked_a1 v_weight_a2 v_fright_a2 v_age_a2 v_asked_a2 v_weight_a3 v_fright_a3 v_age_a3 v_asked_a3 H locs ls hE
    exact it_n hE
  | succ fuel ih =>
    intro x5 x6 v_weight_a1 v_fright_a1 v_age_a1 v_asked_a1 v_weight_a2 v_fright_a2 v_age_a2 v_asked_a2 v_weight_a3 v_fright_a3 v_age_a3 v_asked_a3 H locs ls hE hP hS hl hX
    rw [sC_HW_deathsIn_19_3_h42] at hE
    refine lv_iload C.1 C.2.1 dX0_deathsIn_42 (lv_at hl 6 rfl) ?_
    refine lv_aload_n C.1 C.2.1 dX0_deathsIn_44 rfl (lv_at hl 0 rfl) ?_
    refine xWg_0_6 q244 C hP dX0_deathsIn_45 ?_
    refine xWg_18_0 q182 C hP dX0_deathsIn_48 ?_
    refine lv_icmp_ge (tgt := 143) C.1 C.2.1 dX0_deathsIn_51 (by decide) (fun c4301 => ?_) (fun c4301 => ?_)
    · have hE := it_t c4301 hE
      obtain rfl := Option.some.inj hE
      exact hX H locs ls hP hS (lv_sub hl [5] rfl)
    · have hE := it_f c4301 hE
      refine lv_aload_n C.1 C.2.1 dX0_deathsIn_54 rfl (lv_at hl 0 rfl) ?_
      refine xWg_0_6 q244 C hP dX0_deathsIn_55 ?_
      refine lv_iload C.1 C.2.1 dX0_deathsIn_58 (lv_at hl 6 rfl) ?_
      obtain ⟨r4302, hr4302, hE⟩ := it_b hE
      refine n_after [18, 19, 20, 21, 22, 23, 24, 25] C.2.2.2.2.2.1 C.2.2.2.2.2.2.2.1 hP hS (va_runV (As := [.int x6]) (rest := []) ⟨C.1, C.2.1, hml, C.2.2.1, C.2.2.2.1⟩ (metC_Room_may l G (fun i => ad (18 + i)) pl _ _ _ _ _ _ _ _ _ _ _ _ _ x6  r4302 hr4302) (cwV (C := RX3) 1 C.2.2.2.1 (lw_V q1067 q972 q973 q83 q974) rfl rfl rfl (by decide +kernel) ⟨Nat.le_of_ble_eq_true rfl, Nat.le_of_ble_eq_true rfl⟩) (n_preV C hP hS [18, 19, 20, 21, 22, 23, 24, 25] sub_xW_rW_18 (by decide) rfl (va_recv C.2.2.2.2.1 hP (ci := 12) (q0 := 18) rfl rfl)) rfl rfl hl.1 rfl (lv_room (Nat.le_of_ble_eq_true rfl)) dX0_deathsIn_60 ⟨Nat.le_refl _, Nat.le_refl _⟩) xW_av rfl rfl mg_xW_rW_18 (fun H locs hP hS => ?_)
      obtain ⟨u4304, hR, hE⟩ := it_b hE
      have hJ137u4304 : ∀ (H : Heap) (locs : List Loc) (ls : Array Slot), va_P G.1 vwCl (xW G.2 ad v_latestFault v_died v_leastWeight v_noticedBy v_noticed v_orderDied v_orderLeast v_imaged v_shelves v_refusals v_ran v_bodies v_tweight v_tfright v_tage v_tasked v_told v_bestRow u4304.2.1 u4304.2.2.1 u4304.2.2.2.1 u4304.2.2.2.2.1 u4304.2.2.2.2.2.1 u4304.2.2.2.2.2.2.1 u4304.2.2.2.2.2.2.2.1 u4304.2.2.2.2.2.2.2.2.1 u4304.2.2.2.2.2.2.2.2.2.1 u4304.2.2.2.2.2.2.2.2.2.2.1 u4304.2.2.2.2.2.2.2.2.2.2.2.1 u4304.2.2.2.2.2.2.2.2.2.2.2.2 v_weight_a4 v_fright_a4 v_age_a4 v_asked_a4 v_many v_pets v_last v_seed v_weight v_fright v_age v_asked v_homes v_marks v_had v_allergic v_deaths) H → va_S (nA (xWV ad)) s.heap H locs → lv_has ls 8 [(0, .ref (ad 0)), (1, .ref (ad 19)), (2, .int 3), (3, .int x3), (4, .int x4), (5, .int u4304.1), (6, .int x6)] → W p l e ({ frames := 7, cells := 0, slots := 0, locals := 160 } : Room) s m args below meth c H locs 0 0 Q (F0 m 137 ls []) := by
        intro H locs ls hP hS hl
        refine lv_iinc (v := (x6 + 1)) (lv' := [(6, .int (x6 + 1)), (0, .ref (ad 0)), (1, .ref (ad 19)), (2, .int 3), (3, .int x3), (4, .int x4), (5, .int u4304.1)]) C.1 C.2.1 dX0_deathsIn_137 hl (k := 6) rfl rfl (by decide) rfl (fun ls hl => ?_)
        refine lv_goto (tgt := 42) C.1 C.2.1 dX0_deathsIn_140 (by decide) ?_
        exact ih u4304.1 (x6 + 1) u4304.2.1 u4304.2.2.1 u4304.2.2.2.1 u4304.2.2.2.2.1 u4304.2.2.2.2.2.1 u4304.2.2.2.2.2.2.1 u4304.2.2.2.2.2.2.2.1 u4304.2.2.2.2.2.2.2.2.1 u4304.2.2.2.2.2.2.2.2.2.1 u4304.2.2.2.2.2.2.2.2.2.2.1 u4304.2.2.2.2.2.2.2.2.2.2.2.1 u4304.2.2.2.2.2.2.2.2.2.2.2.2 _ _ _ hE hP hS (lv_sub hl [1, 2, 3, 4, 5, 6, 0] rfl) hX
      have hE := hR
      refine lv_if_eq (tgt := 137) C.1 C.2.1 dX0_deathsIn_63 (by decide) (fun c4303 => ?_) (fun c4303 => ?_)
      · have hE := it_t c4303 hE
        obtain rfl := Option.some.inj hE
        exact hJ137u4304 H locs ls hP hS (lv_sub hl [0, 1, 2, 3, 4, 5, 6] rfl)
      · have hE := it_f c4303 hE
        refine lv_aload_n C.1 C.2.1 dX0_deathsIn_66 rfl (lv_at hl 0 rfl) ?_
        refine xWg_0_15 q253 C hP dX0_deathsIn_67 ?_
        refine lv_iload_n C.1 C.2.1 dX0_deathsIn_70 rfl (lv_at hl 2 rfl) ?_
        refine xWl_9 (v := some (ad 14)) C hP (gi_in (by decide)) rfl dX0_deathsIn_71 ?_
        refine lv_aload_n C.1 C.2.1 dX0_deathsIn_72 rfl (lv_at hl 1 rfl) ?_
        obtain ⟨r4305, hr4305, hE⟩ := it_b hE
        refine n_after [14, 15, 19, 20] C.2.2.2.2.2.1 C.2.2.2.2.2.2.2.1 hP hS (va_runV (As := [.ref (ad 19)]) (rest := []) ⟨C.1, C.2.1, hml, C.2.2.1, C.2.2.2.1⟩ (metC_Pet_take l G (fun i => ad (if i < 2 then 14 + i else 19 + (i - 2))) pl _ _ _ _ _ _ _ _   r4305 hr4305) (cwV (C := RX2) 1 C.2.2.2.1 (lw_V q1076 q796 q797 q82 q798) rfl rfl rfl (by decide +kernel) ⟨Nat.le_of_ble_eq_true rfl, Nat.le_of_ble_eq_true rfl⟩) (n_preV C hP hS [14, 15, 19, 20] sub_xW_ppW_14_19 (by decide) rfl (va_recv C.2.2.2.2.1 hP (ci := 11) (q0 := 14) rfl rfl)) rfl rfl hl.1 rfl (lv_room (Nat.le_of_ble_eq_true rfl)) dX0_deathsIn_73 ⟨Nat.le_refl _, Nat.le_refl _⟩) xW_av rfl rfl mg_xW_ppW_14_19 (fun H locs hP hS => ?_)
        refine lv_astore (lv' := [(7, .ref (ad 14)), (0, .ref (ad 0)), (1, .ref (ad 19)), (2, .int 3), (3, .int x3), (4, .int x4), (5, .int x5), (6, .int x6)]) C.1 C.2.1 dX0_deathsIn_76 hl (by decide) rfl (fun ls hl => ?_)
        refine lv_aload C.1 C.2.1 dX0_deathsIn_78 (lv_at hl 0 rfl) ?_
        refine lv_aload_n C.1 C.2.1 dX0_deathsIn_80 rfl (lv_at hl 1 rfl) ?_
        refine xWg_0_6 q244 C hP dX0_deathsIn_81 ?_
        refine xWg_18_5 q193 C hP dX0_deathsIn_84 ?_
        refine lv_iload C.1 C.2.1 dX0_deathsIn_87 (lv_at hl 7 rfl) ?_
        obtain ⟨g4306, hE⟩ := it_g hE
        obtain ⟨g4307, hE⟩ := it_g hE
        obtain ⟨q4308, hq43080, hq4308, hq43087⟩ := hom _ g4307
        refine xWl_21 (v := some q4308) C hP (gi_in g4306) hq43080 dX0_deathsIn_89 ?_
        obtain ⟨r4309, hr4309, hE⟩ := it_b hE
        refine n_after [14, 15] C.2.2.2.2.2.1 C.2.2.2.2.2.2.2.1 hP hS (va_runV (As := [.ref q4308]) (rest := []) ⟨C.1, C.2.1, hml, C.2.2.1, C.2.2.2.1⟩ (metC_Pet_week_H l G (fun i => ad (14 + i)) pl _ _ _ _ q4308 (hk (x6).toNatClampNeg) x6 (hb (x6).toNatClampNeg) hq43087 hq4308 r4309 hr4309) (cwV (C := RX2) 1 C.2.2.2.1 (lw_V q1082 q985 q986 q82 q987) rfl rfl rfl (by decide +kernel) ⟨Nat.le_of_ble_eq_true rfl, Nat.le_of_ble_eq_true rfl⟩) (n_preV C hP hS [14, 15] sub_xW_pW_14 (by decide) rfl (va_recv C.2.2.2.2.1 hP (ci := 11) (q0 := 14) rfl rfl)) rfl rfl hl.1 rfl (lv_room (Nat.le_of_ble_eq_true rfl)) dX0_deathsIn_90 ⟨Nat.le_refl _, Nat.le_refl _⟩) xW_av rfl rfl mg_xW_pW_14 (fun H locs hP hS => ?_)
        refine lv_iload C.1 C.2.1 dX0_deathsIn_93 (lv_at hl 6 rfl) ?_
        refine lv_aload C.1 C.2.1 dX0_deathsIn_95 (lv_at hl 0 rfl) ?_
        obtain ⟨r4310, hr4310, hE⟩ := it_b hE
        refine n_after [14, 15] C.2.2.2.2.2.1 C.2.2.2.2.2.2.2.1 hP hS (va_runV (As := []) (rest := [.int x5]) ⟨C.1, C.2.1, hml, C.2.2.1, C.2.2.2.1⟩ (metC_Pet_dies l G (fun i => ad (14 + i)) pl _ _ _ _   r4310 hr4310) (cwV (C := RX2) 0 C.2.2.2.1 (lw_V q1083 q1024 q1025 q82 q1026) rfl rfl rfl (by decide +kernel) ⟨Nat.le_of_ble_eq_true rfl, Nat.le_of_ble_eq_true rfl⟩) (n_preV C hP hS [14, 15] sub_xW_pW_14 (by decide) rfl (va_recv C.2.2.2.2.1 hP (ci := 11) (q0 := 14) rfl rfl)) rfl rfl hl.1 rfl (lv_room (Nat.le_of_ble_eq_true rfl)) dX0_deathsIn_97 ⟨Nat.le_refl _, Nat.le_refl _⟩) xW_av rfl rfl mg_xW_pW_14 (fun H locs hP hS => ?_)
        refine lv_iconst (v := (-1)) C.1 C.2.1 dX0_deathsIn_100 (by decide) ?_
        obtain ⟨u4312, hR, hE⟩ := it_b hE
        have hJ134u4312 : ∀ (H : Heap) (locs : List Loc) (ls : Array Slot), va_P G.1 vwCl (xW G.2 ad v_latestFault v_died v_leastWeight v_noticedBy v_noticed v_orderDied v_orderLeast v_imaged v_shelves v_refusals v_ran v_bodies v_tweight v_tfright v_tage v_tasked v_told v_bestRow u4312.2.1 u4312.2.2.1 u4312.2.2.2.1 u4312.2.2.2.2.1 u4312.2.2.2.2.2.1 u4312.2.2.2.2.2.2.1 u4312.2.2.2.2.2.2.2.1 u4312.2.2.2.2.2.2.2.2 r4309.1 r4309.2.1 r4309.2.2 r4305.2.2.2 v_weight_a4 v_fright_a4 v_age_a4 v_asked_a4 v_many v_pets v_last v_seed v_weight v_fright v_age v_asked v_homes v_marks v_had v_allergic v_deaths) H → va_S (nA (xWV ad)) s.heap H locs → lv_has ls 8 [(0, .ref (ad 0)), (1, .ref (ad 19)), (2, .int 3), (3, .int x3), (4, .int x4), (6, .int x6)] → W p l e ({ frames := 7, cells := 0, slots := 0, locals := 160 } : Room) s m args below meth c H locs 0 0 Q (F0 m 134 ls [.int u4312.1, .int x5]) := by
          intro H locs ls hP hS hl
          refine lv_iadd C.1 C.2.1 dX0_deathsIn_134 ?_
          refine lv_istore (lv' := [(5, .int (x5 + u4312.1)), (0, .ref (ad 0)), (1, .ref (ad 19)), (2, .int 3), (3, .int x3), (4, .int x4), (6, .int x6)]) C.1 C.2.1 dX0_deathsIn_135 hl (by decide) rfl (fun ls hl => ?_)
          obtain rfl := Option.some.inj hE
          exact hJ137u4304 H locs ls hP hS (lv_sub hl [1, 2, 3, 4, 5, 0, 6] rfl)
        have hE := hR
        refine lv_icmp_ne (tgt := 117) C.1 C.2.1 dX0_deathsIn_101 (by decide) (fun c4311 => ?_) (fun c4311 => ?_)
        · have hE := it_f c4311 hE
          refine lv_iload_n C.1 C.2.1 dX0_deathsIn_117 rfl (lv_at hl 4 rfl) ?_
          refine lv_iconst (v := (-1)) C.1 C.2.1 dX0_deathsIn_118 (by decide) ?_
          refine lv_icmp_eq (tgt := 128) C.1 C.2.1 dX0_deathsIn_119 (by decide) (fun c4313 => ?_) (fun c4313 => ?_)
          · have hE := it_t c4313 hE
            refine lv_iload C.1 C.2.1 dX0_deathsIn_128 (lv_at hl 5 rfl) ?_
            refine lv_goto (tgt := 134) C.1 C.2.1 dX0_deathsIn_130 (by decide) ?_
            obtain rfl := Option.some.inj hE
            exact hJ134u4312 H locs ls hP hS (lv_sub hl [1, 2, 3, 4, 5, 7] rfl)
          · have hE := it_f c4313 hE
            refine lv_iload_n C.1 C.2.1 dX0_deathsIn_122 rfl (lv_at hl 4 rfl) ?_
            refine lv_iload C.1 C.2.1 dX0_deathsIn_123 (lv_at hl 7 rfl) ?_
            refine lv_icmp_ne (tgt := 133) C.1 C.2.1 dX0_deathsIn_125 (by decide) (fun c4314 => ?_) (fun c4314 => ?_)
            · have hE := it_f c4314 hE
              refine lv_iconst (v := 0) C.1 C.2.1 dX0_deathsIn_133 (by decide) ?_
              obtain rfl := Option.some.inj hE
              exact hJ134u4312 H locs ls hP hS (lv_sub hl [1, 2, 3, 4, 5, 7] rfl)
            · have hE := it_t c4314 hE
              refine lv_iload C.1 C.2.1 dX0_deathsIn_128 (lv_at hl 5 rfl) ?_
              refine lv_goto (tgt := 134) C.1 C.2.1 dX0_deathsIn_130 (by decide) ?_
              obtain rfl := Option.some.inj hE
              exact hJ134u4312 H locs ls hP hS (lv_sub hl [1, 2, 3, 4, 5, 7] rfl)
        · have hE := it_t c4311 hE
          refine lv_aload_n C.1 C.2.1 dX0_deathsIn_104 rfl (lv_at hl 1 rfl) ?_
          refine lv_aload C.1 C.2.1 dX0_deathsIn_105 (lv_at hl 0 rfl) ?_
          refine lv_iload_n C.1 C.2.1 dX0_deathsIn_107 rfl (lv_at hl 3 rfl) ?_
          refine lv_iconst (v := 1) C.1 C.2.1 dX0_deathsIn_108 (by decide) ?_
          refine lv_isub C.1 C.2.1 dX0_deathsIn_109 ?_
          rw [show (3 : Int32) - 1 = 2 from by decide]
          refine lv_iload_n C.1 C.2.1 dX0_deathsIn_110 rfl (lv_at hl 4 rfl) ?_
          obtain ⟨r4315, hr4315, hE⟩ := it_b hE
          refine n_afterS C.2.2.2.2.2.2.2.1 hS (va_runV (As := [.ref (ad 14), .int 2, .int x3]) (rest := [.int x5]) ⟨C.1, C.2.1, hml, C.2.2.1, C.2.2.2.1⟩ (metC_HW_deathsIn_14_2 l G ad pl hk hb _ _ _ _ _ _ _ _ _ _ _ _ _ _ _ _ _ _ _ _ _ _ _ _ _ _ _ _ _ _ _ _ _ _ _ _ _ _ _ _ _ _ _ _ _ _ _ hom x3  r4315 hr4315) (cwV (C := RX0) 3 C.2.2.2.1 (lw_V q1154 q1156 qs28 q80 q1157) rfl rfl rfl (by decide +kernel) ⟨Nat.le_of_ble_eq_true rfl, Nat.le_of_ble_eq_true rfl⟩) (n_preV0 C hP hS (va_recv C.2.2.2.2.1 hP (ci := 16) (q0 := 0) rfl rfl)) rfl rfl hl.1 rfl (lv_room (Nat.le_of_ble_eq_true rfl)) dX0_deathsIn_111 ⟨Nat.le_refl _, Nat.le_refl _⟩) (fun H locs hP hS => ?_)
          refine lv_goto (tgt := 134) C.1 C.2.1 dX0_deathsIn_114 (by decide) ?_
          obtain rfl := Option.some.inj hE
          exact hJ134u4312 H locs ls hP hS (lv_sub hl [1, 2, 3, 4, 5, 7] rfl)
set_option maxHeartbeats 4000000 in
theorem metC_HW_deathsIn_19_3 (l : Launch) (G : kG) (ad : Nat → Nat) (pl : va_W) (hk : Nat → Nat) (hb : Nat → Int32) (v_latestFault : Int32) (v_died : Int32) (v_leastWeight : Int32) (v_noticedBy : Int32) (v_noticed : Int32) (v_orderDied : Int32) (v_orderLeast : Int32) (v_imaged : Option Nat) (v_shelves : Nat → Option Nat) (v_refusals : Nat → Int32) (v_ran : Int32) (v_bodies : Nat → Int32) (v_tweight : Int32) (v_tfright : Int32) (v_tage : Int32) (v_tasked : Nat → Int32) (v_told : Nat → Int32) (v_bestRow : Nat → Int32) (v_weight_a1 : Int32) (v_fright_a1 : Int32) (v_age_a1 : Int32) (v_asked_a1 : Nat → Int32) (v_weight_a2 : Int32) (v_fright_a2 : Int32) (v_age_a2 : Int32) (v_asked_a2 : Nat → Int32) (v_weight_a3 : Int32) (v_fright_a3 : Int32) (v_age_a3 : Int32) (v_asked_a3 : Nat → Int32) (v_weight_a4 : Int32) (v_fright_a4 : Int32) (v_age_a4 : Int32) (v_asked_a4 : Nat → Int32) (v_many : Int32) (v_pets : Int32) (v_last : Int32) (v_seed : Int32) (v_weight : Int32) (v_fright : Int32) (v_age : Int32) (v_asked : Nat → Int32) (v_homes : Nat → Option Nat) (v_marks : Nat → Int32) (v_had : Nat → Int32) (v_allergic : Nat → Int32) (v_deaths : Nat → Int32) (hom : homOK v_homes v_many hk hb pl) (p3 : Int32) (res : Int32 × Int32 × Int32 × Int32 × (Nat → Int32) × Int32 × Int32 × Int32 × (Nat → Int32) × Int32 × Int32 × Int32 × (Nat → Int32)) (hE : sC_HW_deathsIn_19_3 v_weight_a1 v_fright_a1 v_age_a1 v_asked_a1 v_weight_a2 v_fright_a2 v_age_a2 v_asked_a2 v_weight_a3 v_fright_a3 v_age_a3 v_asked_a3 v_many v_weight v_fright v_age v_asked v_homes v_allergic hk hb p3 = some res) : Met l yX0_deathsIn (ws_ yX0_deathsIn cX0_deathsIn 8 (some .int)) ({ frames := 7, cells := 0, slots := 0, locals := 160 } : Room) (nPc G (xW G.2 ad v_latestFault v_died v_leastWeight v_noticedBy v_noticed v_orderDied v_orderLeast v_imaged v_shelves v_refusals v_ran v_bodies v_tweight v_tfright v_tage v_tasked v_told v_bestRow v_weight_a1 v_fright_a1 v_age_a1 v_asked_a1 v_weight_a2 v_fright_a2 v_age_a2 v_asked_a2 v_weight_a3 v_fright_a3 v_age_a3 v_asked_a3 v_weight_a4 v_fright_a4 v_age_a4 v_asked_a4 v_many v_pets v_last v_seed v_weight v_fright v_age v_asked v_homes v_marks v_had v_allergic v_deaths) pl (xWV ad) [.ref (ad 0), .ref (ad 19), .int 3, .int p3]) (nQc G (xW G.2 ad v_latestFault v_died v_leastWeight v_noticedBy v_noticed v_orderDied v_orderLeast v_imaged v_shelves v_refusals v_ran v_bodies v_tweight v_tfright v_tage v_tasked v_told v_bestRow res.2.1 res.2.2.1 res.2.2.2.1 res.2.2.2.2.1 res.2.2.2.2.2.1 res.2.2.2.2.2.2.1 res.2.2.2.2.2.2.2.1 res.2.2.2.2.2.2.2.2.1 res.2.2.2.2.2.2.2.2.2.1 res.2.2.2.2.2.2.2.2.2.2.1 res.2.2.2.2.2.2.2.2.2.2.2.1 res.2.2.2.2.2.2.2.2.2.2.2.2 v_weight_a4 v_fright_a4 v_age_a4 v_asked_a4 v_many v_pets v_last v_seed v_weight v_fright v_age v_asked v_homes v_marks v_had v_allergic v_deaths) (xWV ad) (some (.int res.1))) 0 0 (nA (xWV ad)) := by
  refine n_ofW (own := RX0) (by decide) rfl (Nat.le_of_ble_eq_true rfl) ?_
  intro p e s m args below meth c ls C hml hP hS hl hr hlocks
  have hl : lv_has ls 8 [(0, .ref (ad 0)), (1, .ref (ad 19)), (2, .int 3), (3, .int p3)] := hl
  obtain ⟨Q, hQ⟩ : ∃ Q, Q = MQ below (nQc G (xW G.2 ad v_latestFault v_died v_leastWeight v_noticedBy v_noticed v_orderDied v_orderLeast v_imaged v_shelves v_refusals v_ran v_bodies v_tweight v_tfright v_tage v_tasked v_told v_bestRow res.2.1 res.2.2.1 res.2.2.2.1 res.2.2.2.2.1 res.2.2.2.2.2.1 res.2.2.2.2.2.2.1 res.2.2.2.2.2.2.2.1 res.2.2.2.2.2.2.2.2.1 res.2.2.2.2.2.2.2.2.2.1 res.2.2.2.2.2.2.2.2.2.2.1 res.2.2.2.2.2.2.2.2.2.2.2.1 res.2.2.2.2.2.2.2.2.2.2.2.2 v_weight_a4 v_fright_a4 v_age_a4 v_asked_a4 v_many v_pets v_last v_seed v_weight v_fright v_age v_asked v_homes v_marks v_had v_allergic v_deaths) (xWV ad) (some (.int res.1))) args s 0 0 (nA (xWV ad)) := ⟨_, rfl⟩
  rw [← hQ]
  have hret : ∀ (pc : Nat) (ls : Array Slot) (H : Heap) (locs : List Loc), decode cX0_deathsIn pc = .ok (.ireturn, 1) → va_P G.1 vwCl (xW G.2 ad v_latestFault v_died v_leastWeight v_noticedBy v_noticed v_orderDied v_orderLeast v_imaged v_shelves v_refusals v_ran v_bodies v_tweight v_tfright v_tage v_tasked v_told v_bestRow res.2.1 res.2.2.1 res.2.2.2.1 res.2.2.2.2.1 res.2.2.2.2.2.1 res.2.2.2.2.2.2.1 res.2.2.2.2.2.2.2.1 res.2.2.2.2.2.2.2.2.1 res.2.2.2.2.2.2.2.2.2.1 res.2.2.2.2.2.2.2.2.2.2.1 res.2.2.2.2.2.2.2.2.2.2.2.1 res.2.2.2.2.2.2.2.2.2.2.2.2 v_weight_a4 v_fright_a4 v_age_a4 v_asked_a4 v_many v_pets v_last v_seed v_weight v_fright v_age v_asked v_homes v_marks v_had v_allergic v_deaths) H → va_S (nA (xWV ad)) s.heap H locs → W p l e ({ frames := 7, cells := 0, slots := 0, locals := 160 } : Room) s m args below meth c H locs 0 0 Q (F0 m pc ls [(.int res.1)]) := by
    intro pc ls H locs hd hP hS
    rw [hQ]
    exact n_iret C hr hlocks hd hP hS
  clear hQ
  obtain ⟨H, hH⟩ : ∃ H, H = s.heap := ⟨_, rfl⟩
  obtain ⟨locs, hlo⟩ : ∃ locs : List Loc, locs = [] := ⟨_, rfl⟩
  have hP : va_P G.1 vwCl (xW G.2 ad v_latestFault v_died v_leastWeight v_noticedBy v_noticed v_orderDied v_orderLeast v_imaged v_shelves v_refusals v_ran v_bodies v_tweight v_tfright v_tage v_tasked v_told v_bestRow v_weight_a1 v_fright_a1 v_age_a1 v_asked_a1 v_weight_a2 v_fright_a2 v_age_a2 v_asked_a2 v_weight_a3 v_fright_a3 v_age_a3 v_asked_a3 v_weight_a4 v_fright_a4 v_age_a4 v_asked_a4 v_many v_pets v_last v_seed v_weight v_fright v_age v_asked v_homes v_marks v_had v_allergic v_deaths) H := by rw [hH]; exact hP
  have hS : va_S (nA (xWV ad)) s.heap H locs := by rw [hH, hlo]; exact hS
  suffices hZ : W p l e ({ frames := 7, cells := 0, slots := 0, locals := 160 } : Room) s m args below meth c H locs 0 0 Q (F0 m 0 ls []) by rw [hH, hlo] at hZ; exact hZ
  clear hH hlo
  unfold sC_HW_deathsIn_19_3 at hE
  refine lv_iload_n C.1 C.2.1 dX0_deathsIn_0 rfl (lv_at hl 2 rfl) ?_
  refine lv_if_ne (tgt := 6) C.1 C.2.1 dX0_deathsIn_1 (by decide) (fun c1 => ?_) (fun c1 => absurd c1 (by decide))
  refine lv_iconst (v := 1) C.1 C.2.1 dX0_deathsIn_6 (by decide) ?_
  refine lv_istore (lv' := [(4, .int 1), (0, .ref (ad 0)), (1, .ref (ad 19)), (2, .int 3), (3, .int p3)]) C.1 C.2.1 dX0_deathsIn_7 hl (by decide) rfl (fun ls hl => ?_)
  refine lv_iconst (v := 1) C.1 C.2.1 dX0_deathsIn_9 (by decide) ?_
  refine lv_istore (lv' := [(5, .int 1), (4, .int 1), (0, .ref (ad 0)), (1, .ref (ad 19)), (2, .int 3), (3, .int p3)]) C.1 C.2.1 dX0_deathsIn_10 hl (by decide) rfl (fun ls hl => ?_)
  obtain ⟨u2, hu2, hE⟩ := it_b hE
  refine wC_HW_deathsIn_19_3_h12 C hml  hom p3 u2 2000 1 1 H locs ls hu2 hP hS (lv_sub hl [2, 3, 4, 5, 1, 0] rfl) (fun H locs ls hP hS hl => ?_)
  refine lv_iconst (v := 0) C.1 C.2.1 dX0_deathsIn_36 (by decide) ?_
  refine lv_istore (lv' := [(5, .int 0), (0, .ref (ad 0)), (1, .ref (ad 19)), (2, .int 3), (3, .int p3), (4, .int u2)]) C.1 C.2.1 dX0_deathsIn_37 hl (by decide) rfl (fun ls hl => ?_)
  refine lv_iconst (v := 0) C.1 C.2.1 dX0_deathsIn_39 (by decide) ?_
  refine lv_istore (lv' := [(6, .int 0), (5, .int 0), (0, .ref (ad 0)), (1, .ref (ad 19)), (2, .int 3), (3, .int p3), (4, .int u2)]) C.1 C.2.1 dX0_deathsIn_40 hl (by decide) rfl (fun ls hl => ?_)
  obtain ⟨u3, hu3, hE⟩ := it_b hE
  refine wC_HW_deathsIn_19_3_h42 C hml  hom p3 u2 u3 2000 0 0 v_weight_a1 v_fright_a1 v_age_a1 v_asked_a1 v_weight_a2 v_fright_a2 v_age_a2 v_asked_a2 v_weight_a3 v_fright_a3 v_age_a3 v_asked_a3 H locs ls hu3 hP hS (lv_sub hl [2, 3, 4, 5, 6, 1, 0] rfl) (fun H locs ls hP hS hl => ?_)
  refine lv_iload C.1 C.2.1 dX0_deathsIn_143 (lv_at hl 0 rfl) ?_
  obtain rfl := Option.some.inj hE
  exact hret _ _ _ _ dX0_deathsIn_145 hP hS
def sC_HW_deathsIn_16_3_h12 (v_many : Int32) (v_allergic : Nat → Int32) : Nat → Int32 → Int32 → Option (Int32)
  | 0, _, _ => none
  | fuel + 1, x4, x5 =>
    if 3 ≤ x5 then
      some x4
    else
      (sC_Room_mayMany v_many v_allergic).bind fun r1302 =>
      sC_HW_deathsIn_16_3_h12 v_many v_allergic fuel (x4 * r1302) (x5 + 1)
def sC_HW_deathsIn_16_3_h42 (x3 : Int32) (x4 : Int32) (v_weight_a4 : Int32) (v_fright_a4 : Int32) (v_age_a4 : Int32) (v_asked_a4 : Nat → Int32) (v_many : Int32) (v_homes : Nat → Option Nat) (v_allergic : Nat → Int32) (hk : Nat → Nat) (hb : Nat → Int32) : Nat → Int32 → Int32 → Int32 → Int32 → Int32 → (Nat → Int32) → Int32 → Int32 → Int32 → (Nat → Int32) → Int32 → Int32 → Int32 → (Nat → Int32) → Option (Int32 × Int32 × Int32 × Int32 × (Nat → Int32) × Int32 × Int32 × Int32 × (Nat → Int32) × Int32 × Int32 × Int32 × (Nat → Int32))
  | 0, _, _, _, _, _, _, _, _, _, _, _, _, _, _ => none
  | fuel + 1, x5, x6, v_weight_a1, v_fright_a1, v_age_a1, v_asked_a1, v_weight_a2, v_fright_a2, v_age_a2, v_asked_a2, v_weight_a3, v_fright_a3, v_age_a3, v_asked_a3 =>
    if v_many ≤ x6 then
      some (x5, v_weight_a1, v_fright_a1, v_age_a1, v_asked_a1, v_weight_a2, v_fright_a2, v_age_a2, v_asked_a2, v_weight_a3, v_fright_a3, v_age_a3, v_asked_a3)
    else
      (sC_Room_may v_many v_allergic x6).bind fun r4302 =>
      @Option.bind (Int32 × Int32 × Int32 × Int32 × (Nat → Int32) × Int32 × Int32 × Int32 × (Nat → Int32) × Int32 × Int32 × Int32 × (Nat → Int32)) _ (
        if r4302 = 0 then
          some (x5, v_weight_a1, v_fright_a1, v_age_a1, v_asked_a1, v_weight_a2, v_fright_a2, v_age_a2, v_asked_a2, v_weight_a3, v_fright_a3, v_age_a3, v_asked_a3)
        else
          (sC_Pet_take v_weight_a3 v_fright_a3 v_age_a3 v_asked_a3 v_weight_a4 v_fright_a4 v_age_a4 v_asked_a4).bind fun r4305 =>
          if gi x6 8 then
          if gm x6 v_many then
          (sC_Pet_week_H r4305.1 r4305.2.1 r4305.2.2.1 r4305.2.2.2 (hk (x6).toNatClampNeg) x6 (hb (x6).toNatClampNeg)).bind fun r4309 =>
          (sC_Pet_dies r4309.1 r4309.2.1 r4309.2.2 r4305.2.2.2).bind fun r4310 =>
          @Option.bind (Int32 × Int32 × Int32 × Int32 × (Nat → Int32) × Int32 × Int32 × Int32 × (Nat → Int32)) _ (
            if r4310 = (-1) then
              (sC_HW_deathsIn_14_2 v_weight_a1 v_fright_a1 v_age_a1 v_asked_a1 v_weight_a2 v_fright_a2 v_age_a2 v_asked_a2 r4309.1 r4309.2.1 r4309.2.2 r4305.2.2.2 v_many v_homes v_allergic hk hb x3).bind fun r4315 =>
              some (r4315.1, r4315.2.1, r4315.2.2.1, r4315.2.2.2.1, r4315.2.2.2.2.1, r4315.2.2.2.2.2.1, r4315.2.2.2.2.2.2.1, r4315.2.2.2.2.2.2.2.1, r4315.2.2.2.2.2.2.2.2)
            else
              if x3 = (-1) then
                some (x4, v_weight_a1, v_fright_a1, v_age_a1, v_asked_a1, v_weight_a2, v_fright_a2, v_age_a2, v_asked_a2)
              else
                if x3 = x6 then
                  some (x4, v_weight_a1, v_fright_a1, v_age_a1, v_asked_a1, v_weight_a2, v_fright_a2, v_age_a2, v_asked_a2)
                else
                  some (0, v_weight_a1, v_fright_a1, v_age_a1, v_asked_a1, v_weight_a2, v_fright_a2, v_age_a2, v_asked_a2)) fun u4312 =>
          some ((x5 + u4312.1), u4312.2.1, u4312.2.2.1, u4312.2.2.2.1, u4312.2.2.2.2.1, u4312.2.2.2.2.2.1, u4312.2.2.2.2.2.2.1, u4312.2.2.2.2.2.2.2.1, u4312.2.2.2.2.2.2.2.2, r4309.1, r4309.2.1, r4309.2.2, r4305.2.2.2)
          else none
          else none) fun u4304 =>
      sC_HW_deathsIn_16_3_h42 x3 x4 v_weight_a4 v_fright_a4 v_age_a4 v_asked_a4 v_many v_homes v_allergic hk hb fuel u4304.1 (x6 + 1) u4304.2.1 u4304.2.2.1 u4304.2.2.2.1 u4304.2.2.2.2.1 u4304.2.2.2.2.2.1 u4304.2.2.2.2.2.2.1 u4304.2.2.2.2.2.2.2.1 u4304.2.2.2.2.2.2.2.2.1 u4304.2.2.2.2.2.2.2.2.2.1 u4304.2.2.2.2.2.2.2.2.2.2.1 u4304.2.2.2.2.2.2.2.2.2.2.2.1 u4304.2.2.2.2.2.2.2.2.2.2.2.2
def sC_HW_deathsIn_16_3 (v_weight_a1 : Int32) (v_fright_a1 : Int32) (v_age_a1 : Int32) (v_asked_a1 : Nat → Int32) (v_weight_a2 : Int32) (v_fright_a2 : Int32) (v_age_a2 : Int32) (v_asked_a2 : Nat → Int32) (v_weight_a3 : Int32) (v_fright_a3 : Int32) (v_age_a3 : Int32) (v_asked_a3 : Nat → Int32) (v_weight_a4 : Int32) (v_fright_a4 : Int32) (v_age_a4 : Int32) (v_asked_a4 : Nat → Int32) (v_many : Int32) (v_homes : Nat → Option Nat) (v_allergic : Nat → Int32) (hk : Nat → Nat) (hb : Nat → Int32) (p3 : Int32) : Option (Int32 × Int32 × Int32 × Int32 × (Nat → Int32) × Int32 × Int32 × Int32 × (Nat → Int32) × Int32 × Int32 × Int32 × (Nat → Int32)) :=
  (sC_HW_deathsIn_16_3_h12 v_many v_allergic 2000 1 1).bind fun u2 =>
  (sC_HW_deathsIn_16_3_h42 p3 u2 v_weight_a4 v_fright_a4 v_age_a4 v_asked_a4 v_many v_homes v_allergic hk hb 2000 0 0 v_weight_a1 v_fright_a1 v_age_a1 v_asked_a1 v_weight_a2 v_fright_a2 v_age_a2 v_asked_a2 v_weight_a3 v_fright_a3 v_age_a3 v_asked_a3).bind fun u3 =>
  some (u3.1, u3.2.1, u3.2.2.1, u3.2.2.2.1, u3.2.2.2.2.1, u3.2.2.2.2.2.1, u3.2.2.2.2.2.2.1, u3.2.2.2.2.2.2.2.1, u3.2.2.2.2.2.2.2.2.1, u3.2.2.2.2.2.2.2.2.2.1, u3.2.2.2.2.2.2.2.2.2.2.1, u3.2.2.2.2.2.2.2.2.2.2.2.1, u3.2.2.2.2.2.2.2.2.2.2.2.2)
set_option maxHeartbeats 4000000 in
theorem wC_HW_deathsIn_16_3_h12 {p : Program} {l : Launch} {e : Env} {s : State} {m : MethodId} {args : Array Value} {below : List Frame} {meth : Method} {c : Code} {Q : State → Prop} {G : kG} {ad : Nat → Nat} {pl : va_W} {hk : Nat → Nat} {hb : Nat → Int32} {v_latestFault : Int32} {v_died : Int32} {v_leastWeight : Int32} {v_noticedBy : Int32} {v_noticed : Int32} {v_orderDied : Int32} {v_orderLeast : Int32} {v_imaged : Option Nat} {v_shelves : Nat → Option Nat} {v_refusals : Nat → Int32} {v_ran : Int32} {v_bodies : Nat → Int32} {v_tweight : Int32} {v_tfright : Int32} {v_tage : Int32} {v_tasked : Nat → Int32} {v_told : Nat → Int32} {v_bestRow : Nat → Int32} {v_weight_a1 : Int32} {v_fright_a1 : Int32} {v_age_a1 : Int32} {v_asked_a1 : Nat → Int32} {v_weight_a2 : Int32} {v_fright_a2 : Int32} {v_age_a2 : Int32} {v_asked_a2 : Nat → Int32} {v_weight_a3 : Int32} {v_fright_a3 : Int32} {v_age_a3 : Int32} {v_asked_a3 : Nat → Int32} {v_weight_a4 : Int32} {v_fright_a4 : Int32} {v_age_a4 : Int32} {v_asked_a4 : Nat → Int32} {v_many : Int32} {v_pets : Int32} {v_last : Int32} {v_seed : Int32} {v_weight : Int32} {v_fright : Int32} {v_age : Int32} {v_asked : Nat → Int32} {v_homes : Nat → Option Nat} {v_marks : Nat → Int32} {v_had : Nat → Int32} {v_allergic : Nat → Int32} {v_deaths : Nat → Int32} (C : nC p s m args c cX0_deathsIn RX0 G (xWV ad) pl (nA (xWV ad))) (hml : c.maxLocals = 8)  (hom : homOK v_homes v_many hk hb pl) (x3 : Int32) (res : Int32) :
    ∀ (fuel : Nat) (x4 : Int32) (x5 : Int32) (H : Heap) (locs : List Loc) (ls : Array Slot), sC_HW_deathsIn_16_3_h12 v_many v_allergic fuel x4 x5 = some res → va_P G.1 vwCl (xW G.2 ad v_latestFault v_died v_leastWeight v_noticedBy v_noticed v_orderDied v_orderLeast v_imaged v_shelves v_refusals v_ran v_bodies v_tweight v_tfright v_tage v_tasked v_told v_bestRow v_weight_a1 v_fright_a1 v_age_a1 v_asked_a1 v_weight_a2 v_fright_a2 v_age_a2 v_asked_a2 v_weight_a3 v_fright_a3 v_age_a3 v_asked_a3 v_weight_a4 v_fright_a4 v_age_a4 v_asked_a4 v_many v_pets v_last v_seed v_weight v_fright v_age v_asked v_homes v_marks v_had v_allergic v_deaths) H → va_S (nA (xWV ad)) s.heap H locs → lv_has ls 8 [(0, .ref (ad 0)), (1, .ref (ad 16)), (2, .int 3), (3, .int x3), (4, .int x4), (5, .int x5)] → (∀ (H : Heap) (locs : List Loc) (ls : Array Slot), va_P G.1 vwCl (xW G.2 ad v_latestFault v_died v_leastWeight v_noticedBy v_noticed v_orderDied v_orderLeast v_imaged v_shelves v_refusals v_ran v_bodies v_tweight v_tfright v_tage v_tasked v_told v_bestRow v_weight_a1 v_fright_a1 v_age_a1 v_asked_a1 v_weight_a2 v_fright_a2 v_age_a2 v_asked_a2 v_weight_a3 v_fright_a3 v_age_a3 v_asked_a3 v_weight_a4 v_fright_a4 v_age_a4 v_asked_a4 v_many v_pets v_last v_seed v_weight v_fright v_age v_asked v_homes v_marks v_had v_allergic v_deaths) H → va_S (nA (xWV ad)) s.heap H locs → lv_has ls 8 [(0, .ref (ad 0)), (1, .ref (ad 16)), (2, .int 3), (3, .int x3), (4, .int res)] → W p l e ({ frames := 7, cells := 0, slots := 0, locals := 160 } : Room) s m args below meth c H locs 0 0 Q (F0 m 36 ls [])) → W p l e ({ frames := 7, cells := 0, slots := 0, locals := 160 } : Room) s m args below meth c H locs 0 0 Q (F0 m 12 ls []) := by
  intro fuel
  induction fuel with
  | zero =>
    intro x4 x5 H locs ls hE
    exact it_n hE
  | succ fuel ih =>
    intro x4 x5 H locs ls hE hP hS hl hX
    rw [sC_HW_deathsIn_16_3_h12] at hE
    refine lv_iload C.1 C.2.1 dX0_deathsIn_12 (lv_at hl 5 rfl) ?_
    refine lv_iload_n C.1 C.2.1 dX0_deathsIn_14 rfl (lv_at hl 2 rfl) ?_
    refine lv_icmp_ge (tgt := 36) C.1 C.2.1 dX0_deathsIn_15 (by decide) (fun c1301 => ?_) (fun c1301 => ?_)
    · have hE := it_t c1301 hE
      obtain rfl := Option.some.inj hE
      exact hX H locs ls hP hS (lv_sub hl [0, 1, 2, 3, 4] rfl)
    · have hE := it_f c1301 hE
      refine lv_iload C.1 C.2.1 dX0_deathsIn_18 (lv_at hl 4 rfl) ?_
      refine lv_aload_n C.1 C.2.1 dX0_deathsIn_20 rfl (lv_at hl 0 rfl) ?_
      refine xWg_0_6 q244 C hP dX0_deathsIn_21 ?_
      obtain ⟨r1302, hr1302, hE⟩ := it_b hE
      refine n_after [18, 19, 20, 21, 22, 23, 24, 25] C.2.2.2.2.2.1 C.2.2.2.2.2.2.2.1 hP hS (va_runV (As := []) (rest := [.int x4]) ⟨C.1, C.2.1, hml, C.2.2.1, C.2.2.2.1⟩ (metC_Room_mayMany l G (fun i => ad (18 + i)) pl _ _ _ _ _ _ _ _ _ _ _ _ _   r1302 hr1302) (cwV (C := RX3) 0 C.2.2.2.1 (lw_V q1113 q1114 q1115 q83 q1116) rfl rfl rfl (by decide +kernel) ⟨Nat.le_of_ble_eq_true rfl, Nat.le_of_ble_eq_true rfl⟩) (n_preV C hP hS [18, 19, 20, 21, 22, 23, 24, 25] sub_xW_rW_18 (by decide) rfl (va_recv C.2.2.2.2.1 hP (ci := 12) (q0 := 18) rfl rfl)) rfl rfl hl.1 rfl (lv_room (Nat.le_of_ble_eq_true rfl)) dX0_deathsIn_24 ⟨Nat.le_refl _, Nat.le_refl _⟩) xW_av rfl rfl mg_xW_rW_18 (fun H locs hP hS => ?_)
      refine lv_imul C.1 C.2.1 dX0_deathsIn_27 ?_
      refine lv_istore (lv' := [(4, .int (x4 * r1302)), (0, .ref (ad 0)), (1, .ref (ad 16)), (2, .int 3), (3, .int x3), (5, .int x5)]) C.1 C.2.1 dX0_deathsIn_28 hl (by decide) rfl (fun ls hl => ?_)
      refine lv_iinc (v := (x5 + 1)) (lv' := [(5, .int (x5 + 1)), (4, .int (x4 * r1302)), (0, .ref (ad 0)), (1, .ref (ad 16)), (2, .int 3), (3, .int x3)]) C.1 C.2.1 dX0_deathsIn_30 hl (k := 5) rfl rfl (by decide) rfl (fun ls hl => ?_)
      refine lv_goto (tgt := 12) C.1 C.2.1 dX0_deathsIn_33 (by decide) ?_
      exact ih (x4 * r1302) (x5 + 1) _ _ _ hE hP hS (lv_sub hl [2, 3, 4, 5, 1, 0] rfl) hX
set_option maxHeartbeats 4000000 in
theorem wC_HW_deathsIn_16_3_h42 {p : Program} {l : Launch} {e : Env} {s : State} {m : MethodId} {args : Array Value} {below : List Frame} {meth : Method} {c : Code} {Q : State → Prop} {G : kG} {ad : Nat → Nat} {pl : va_W} {hk : Nat → Nat} {hb : Nat → Int32} {v_latestFault : Int32} {v_died : Int32} {v_leastWeight : Int32} {v_noticedBy : Int32} {v_noticed : Int32} {v_orderDied : Int32} {v_orderLeast : Int32} {v_imaged : Option Nat} {v_shelves : Nat → Option Nat} {v_refusals : Nat → Int32} {v_ran : Int32} {v_bodies : Nat → Int32} {v_tweight : Int32} {v_tfright : Int32} {v_tage : Int32} {v_tasked : Nat → Int32} {v_told : Nat → Int32} {v_bestRow : Nat → Int32} {v_weight_a4 : Int32} {v_fright_a4 : Int32} {v_age_a4 : Int32} {v_asked_a4 : Nat → Int32} {v_many : Int32} {v_pets : Int32} {v_last : Int32} {v_seed : Int32} {v_weight : Int32} {v_fright : Int32} {v_age : Int32} {v_asked : Nat → Int32} {v_homes : Nat → Option Nat} {v_marks : Nat → Int32} {v_had : Nat → Int32} {v_allergic : Nat → Int32} {v_deaths : Nat → Int32} (C : nC p s m args c cX0_deathsIn RX0 G (xWV ad) pl (nA (xWV ad))) (hml : c.maxLocals = 8)  (hom : homOK v_homes v_many hk hb pl) (x3 : Int32) (x4 : Int32) (res : Int32 × Int32 × Int32 × Int32 × (Nat → Int32) × Int32 × Int32 × Int32 × (Nat → Int32) × Int32 × Int32 × Int32 × (Nat → Int32)) :
    ∀ (fuel : Nat) (x5 : Int32) (x6 : Int32) (v_weight_a1 : Int32) (v_fright_a1 : Int32) (v_age_a1 : Int32) (v_asked_a1 : Nat → Int32) (v_weight_a2 : Int32) (v_fright_a2 : Int32) (v_age_a2 : Int32) (v_asked_a2 : Nat → Int32) (v_weight_a3 : Int32) (v_fright_a3 : Int32) (v_age_a3 : Int32) (v_asked_a3 : Nat → Int32) (H : Heap) (locs : List Loc) (ls : Array Slot), sC_HW_deathsIn_16_3_h42 x3 x4 v_weight_a4 v_fright_a4 v_age_a4 v_asked_a4 v_many v_homes v_allergic hk hb fuel x5 x6 v_weight_a1 v_fright_a1 v_age_a1 v_asked_a1 v_weight_a2 v_fright_a2 v_age_a2 v_asked_a2 v_weight_a3 v_fright_a3 v_age_a3 v_asked_a3 = some res → va_P G.1 vwCl (xW G.2 ad v_latestFault v_died v_leastWeight v_noticedBy v_noticed v_orderDied v_orderLeast v_imaged v_shelves v_refusals v_ran v_bodies v_tweight v_tfright v_tage v_tasked v_told v_bestRow v_weight_a1 v_fright_a1 v_age_a1 v_asked_a1 v_weight_a2 v_fright_a2 v_age_a2 v_asked_a2 v_weight_a3 v_fright_a3 v_age_a3 v_asked_a3 v_weight_a4 v_fright_a4 v_age_a4 v_asked_a4 v_many v_pets v_last v_seed v_weight v_fright v_age v_asked v_homes v_marks v_had v_allergic v_deaths) H → va_S (nA (xWV ad)) s.heap H locs → lv_has ls 8 [(0, .ref (ad 0)), (1, .ref (ad 16)), (2, .int 3), (3, .int x3), (4, .int x4), (5, .int x5), (6, .int x6)] → (∀ (H : Heap) (locs : List Loc) (ls : Array Slot), va_P G.1 vwCl (xW G.2 ad v_latestFault v_died v_leastWeight v_noticedBy v_noticed v_orderDied v_orderLeast v_imaged v_shelves v_refusals v_ran v_bodies v_tweight v_tfright v_tage v_tasked v_told v_bestRow res.2.1 res.2.2.1 res.2.2.2.1 res.2.2.2.2.1 res.2.2.2.2.2.1 res.2.2.2.2.2.2.1 res.2.2.2.2.2.2.2.1 res.2.2.2.2.2.2.2.2.1 res.2.2.2.2.2.2.2.2.2.1 res.2.2.2.2.2.2.2.2.2.2.1 res.2.2.2.2.2.2.2.2.2.2.2.1 res.2.2.2.2.2.2.2.2.2.2.2.2 v_weight_a4 v_fright_a4 v_age_a4 v_asked_a4 v_many v_pets v_last v_seed v_weight v_fright v_age v_asked v_homes v_marks v_had v_allergic v_deaths) H → va_S (nA (xWV ad)) s.heap H locs → lv_has ls 8 [(5, .int res.1)] → W p l e ({ frames := 7, cells := 0, slots := 0, locals := 160 } : Room) s m args below meth c H locs 0 0 Q (F0 m 143 ls [])) → W p l e ({ frames := 7, cells := 0, slots := 0, locals := 160 } : Room) s m args below meth c H locs 0 0 Q (F0 m 42 ls []) := by
  intro fuel
  induction fuel with
  | zero =>
    intro x5 x6 v_weight_a1 v_fright_a1 v_age_a1 v_asked_a1 v_weight_a2 v_fright_a2 v_age_a2 v_asked_a2 v_weight_a3 v_fright_a3 v_age_a3 v_asked_a3 H locs ls hE
    exact it_n hE
  | succ fuel ih =>
    intro x5 x6 v_weight_a1 v_fright_a1 v_age_a1 v_asked_a1 v_weight_a2 v_fright_a2 v_age_a2 v_asked_a2 v_weight_a3 v_fright_a3 v_age_a3 v_asked_a3 H locs ls hE hP hS hl hX
    rw [sC_HW_deathsIn_16_3_h42] at hE
    refine lv_iload C.1 C.2.1 dX0_deathsIn_42 (lv_at hl 6 rfl) ?_
    refine lv_aload_n C.1 C.2.1 dX0_deathsIn_44 rfl (lv_at hl 0 rfl) ?_
    refine xWg_0_6 q244 C hP dX0_deathsIn_45 ?_
    refine xWg_18_0 q182 C hP dX0_deathsIn_48 ?_
    refine lv_icmp_ge (tgt := 143) C.1 C.2.1 dX0_deathsIn_51 (by decide) (fun c4301 => ?_) (fun c4301 => ?_)
    · have hE := it_t c4301 hE
      obtain rfl := Option.some.inj hE
      exact hX H locs ls hP hS (lv_sub hl [5] rfl)
    · have hE := it_f c4301 hE
      refine lv_aload_n C.1 C.2.1 dX0_deathsIn_54 rfl (lv_at hl 0 rfl) ?_
      refine xWg_0_6 q244 C hP dX0_deathsIn_55 ?_
      refine lv_iload C.1 C.2.1 dX0_deathsIn_58 (lv_at hl 6 rfl) ?_
      obtain ⟨r4302, hr4302, hE⟩ := it_b hE
      refine n_after [18, 19, 20, 21, 22, 23, 24, 25] C.2.2.2.2.2.1 C.2.2.2.2.2.2.2.1 hP hS (va_runV (As := [.int x6]) (rest := []) ⟨C.1, C.2.1, hml, C.2.2.1, C.2.2.2.1⟩ (metC_Room_may l G (fun i => ad (18 + i)) pl _ _ _ _ _ _ _ _ _ _ _ _ _ x6  r4302 hr4302) (cwV (C := RX3) 1 C.2.2.2.1 (lw_V q1067 q972 q973 q83 q974) rfl rfl rfl (by decide +kernel) ⟨Nat.le_of_ble_eq_true rfl, Nat.le_of_ble_eq_true rfl⟩) (n_preV C hP hS [18, 19, 20, 21, 22, 23, 24, 25] sub_xW_rW_18 (by decide) rfl (va_recv C.2.2.2.2.1 hP (ci := 12) (q0 := 18) rfl rfl)) rfl rfl hl.1 rfl (lv_room (Nat.le_of_ble_eq_true rfl)) dX0_deathsIn_60 ⟨Nat.le_refl _, Nat.le_refl _⟩) xW_av rfl rfl mg_xW_rW_18 (fun H locs hP hS => ?_)
      obtain ⟨u4304, hR, hE⟩ := it_b hE
      have hJ137u4304 : ∀ (H : Heap) (locs : List Loc) (ls : Array Slot), va_P G.1 vwCl (xW G.2 ad v_latestFault v_died v_leastWeight v_noticedBy v_noticed v_orderDied v_orderLeast v_imaged v_shelves v_refusals v_ran v_bodies v_tweight v_tfright v_tage v_tasked v_told v_bestRow u4304.2.1 u4304.2.2.1 u4304.2.2.2.1 u4304.2.2.2.2.1 u4304.2.2.2.2.2.1 u4304.2.2.2.2.2.2.1 u4304.2.2.2.2.2.2.2.1 u4304.2.2.2.2.2.2.2.2.1 u4304.2.2.2.2.2.2.2.2.2.1 u4304.2.2.2.2.2.2.2.2.2.2.1 u4304.2.2.2.2.2.2.2.2.2.2.2.1 u4304.2.2.2.2.2.2.2.2.2.2.2.2 v_weight_a4 v_fright_a4 v_age_a4 v_asked_a4 v_many v_pets v_last v_seed v_weight v_fright v_age v_asked v_homes v_marks v_had v_allergic v_deaths) H → va_S (nA (xWV ad)) s.heap H locs → lv_has ls 8 [(0, .ref (ad 0)), (1, .ref (ad 16)), (2, .int 3), (3, .int x3), (4, .int x4), (5, .int u4304.1), (6, .int x6)] → W p l e ({ frames := 7, cells := 0, slots := 0, locals := 160 } : Room) s m args below meth c H locs 0 0 Q (F0 m 137 ls []) := by
        intro H locs ls hP hS hl
        refine lv_iinc (v := (x6 + 1)) (lv' := [(6, .int (x6 + 1)), (0, .ref (ad 0)), (1, .ref (ad 16)), (2, .int 3), (3, .int x3), (4, .int x4), (5, .int u4304.1)]) C.1 C.2.1 dX0_deathsIn_137 hl (k := 6) rfl rfl (by decide) rfl (fun ls hl => ?_)
        refine lv_goto (tgt := 42) C.1 C.2.1 dX0_deathsIn_140 (by decide) ?_
        exact ih u4304.1 (x6 + 1) u4304.2.1 u4304.2.2.1 u4304.2.2.2.1 u4304.2.2.2.2.1 u4304.2.2.2.2.2.1 u4304.2.2.2.2.2.2.1 u4304.2.2.2.2.2.2.2.1 u4304.2.2.2.2.2.2.2.2.1 u4304.2.2.2.2.2.2.2.2.2.1 u4304.2.2.2.2.2.2.2.2.2.2.1 u4304.2.2.2.2.2.2.2.2.2.2.2.1 u4304.2.2.2.2.2.2.2.2.2.2.2.2 _ _ _ hE hP hS (lv_sub hl [1, 2, 3, 4, 5, 6, 0] rfl) hX
      have hE := hR
      refine lv_if_eq (tgt := 137) C.1 C.2.1 dX0_deathsIn_63 (by decide) (fun c4303 => ?_) (fun c4303 => ?_)
      · have hE := it_t c4303 hE
        obtain rfl := Option.some.inj hE
        exact hJ137u4304 H locs ls hP hS (lv_sub hl [0, 1, 2, 3, 4, 5, 6] rfl)
      · have hE := it_f c4303 hE
        refine lv_aload_n C.1 C.2.1 dX0_deathsIn_66 rfl (lv_at hl 0 rfl) ?_
        refine xWg_0_15 q253 C hP dX0_deathsIn_67 ?_
        refine lv_iload_n C.1 C.2.1 dX0_deathsIn_70 rfl (lv_at hl 2 rfl) ?_
        refine xWl_9 (v := some (ad 14)) C hP (gi_in (by decide)) rfl dX0_deathsIn_71 ?_
        refine lv_aload_n C.1 C.2.1 dX0_deathsIn_72 rfl (lv_at hl 1 rfl) ?_
        obtain ⟨r4305, hr4305, hE⟩ := it_b hE
        refine n_after [14, 15, 16, 17] C.2.2.2.2.2.1 C.2.2.2.2.2.2.2.1 hP hS (va_runV (As := [.ref (ad 16)]) (rest := []) ⟨C.1, C.2.1, hml, C.2.2.1, C.2.2.2.1⟩ (metC_Pet_take l G (fun i => ad (14 + i)) pl _ _ _ _ _ _ _ _   r4305 hr4305) (cwV (C := RX2) 1 C.2.2.2.1 (lw_V q1076 q796 q797 q82 q798) rfl rfl rfl (by decide +kernel) ⟨Nat.le_of_ble_eq_true rfl, Nat.le_of_ble_eq_true rfl⟩) (n_preV C hP hS [14, 15, 16, 17] sub_xW_ppW_14_16 (by decide) rfl (va_recv C.2.2.2.2.1 hP (ci := 11) (q0 := 14) rfl rfl)) rfl rfl hl.1 rfl (lv_room (Nat.le_of_ble_eq_true rfl)) dX0_deathsIn_73 ⟨Nat.le_refl _, Nat.le_refl _⟩) xW_av rfl rfl mg_xW_ppW_14_16 (fun H locs hP hS => ?_)
        refine lv_astore (lv' := [(7, .ref (ad 14)), (0, .ref (ad 0)), (1, .ref (ad 16)), (2, .int 3), (3, .int x3), (4, .int x4), (5, .int x5), (6, .int x6)]) C.1 C.2.1 dX0_deathsIn_76 hl (by decide) rfl (fun ls hl => ?_)
        refine lv_aload C.1 C.2.1 dX0_deathsIn_78 (lv_at hl 0 rfl) ?_
        refine lv_aload_n C.1 C.2.1 dX0_deathsIn_80 rfl (lv_at hl 1 rfl) ?_
        refine xWg_0_6 q244 C hP dX0_deathsIn_81 ?_
        refine xWg_18_5 q193 C hP dX0_deathsIn_84 ?_
        refine lv_iload C.1 C.2.1 dX0_deathsIn_87 (lv_at hl 7 rfl) ?_
        obtain ⟨g4306, hE⟩ := it_g hE
        obtain ⟨g4307, hE⟩ := it_g hE
        obtain ⟨q4308, hq43080, hq4308, hq43087⟩ := hom _ g4307
        refine xWl_21 (v := some q4308) C hP (gi_in g4306) hq43080 dX0_deathsIn_89 ?_
        obtain ⟨r4309, hr4309, hE⟩ := it_b hE
        refine n_after [14, 15] C.2.2.2.2.2.1 C.2.2.2.2.2.2.2.1 hP hS (va_runV (As := [.ref q4308]) (rest := []) ⟨C.1, C.2.1, hml, C.2.2.1, C.2.2.2.1⟩ (metC_Pet_week_H l G (fun i => ad (14 + i)) pl _ _ _ _ q4308 (hk (x6).toNatClampNeg) x6 (hb (x6).toNatClampNeg) hq43087 hq4308 r4309 hr4309) (cwV (C := RX2) 1 C.2.2.2.1 (lw_V q1082 q985 q986 q82 q987) rfl rfl rfl (by decide +kernel) ⟨Nat.le_of_ble_eq_true rfl, Nat.le_of_ble_eq_true rfl⟩) (n_preV C hP hS [14, 15] sub_xW_pW_14 (by decide) rfl (va_recv C.2.2.2.2.1 hP (ci := 11) (q0 := 14) rfl rfl)) rfl rfl hl.1 rfl (lv_room (Nat.le_of_ble_eq_true rfl)) dX0_deathsIn_90 ⟨Nat.le_refl _, Nat.le_refl _⟩) xW_av rfl rfl mg_xW_pW_14 (fun H locs hP hS => ?_)
        refine lv_iload C.1 C.2.1 dX0_deathsIn_93 (lv_at hl 6 rfl) ?_
        refine lv_aload C.1 C.2.1 dX0_deathsIn_95 (lv_at hl 0 rfl) ?_
        obtain ⟨r4310, hr4310, hE⟩ := it_b hE
        refine n_after [14, 15] C.2.2.2.2.2.1 C.2.2.2.2.2.2.2.1 hP hS (va_runV (As := []) (rest := [.int x5]) ⟨C.1, C.2.1, hml, C.2.2.1, C.2.2.2.1⟩ (metC_Pet_dies l G (fun i => ad (14 + i)) pl _ _ _ _   r4310 hr4310) (cwV (C := RX2) 0 C.2.2.2.1 (lw_V q1083 q1024 q1025 q82 q1026) rfl rfl rfl (by decide +kernel) ⟨Nat.le_of_ble_eq_true rfl, Nat.le_of_ble_eq_true rfl⟩) (n_preV C hP hS [14, 15] sub_xW_pW_14 (by decide) rfl (va_recv C.2.2.2.2.1 hP (ci := 11) (q0 := 14) rfl rfl)) rfl rfl hl.1 rfl (lv_room (Nat.le_of_ble_eq_true rfl)) dX0_deathsIn_97 ⟨Nat.le_refl _, Nat.le_refl _⟩) xW_av rfl rfl mg_xW_pW_14 (fun H locs hP hS => ?_)
        refine lv_iconst (v := (-1)) C.1 C.2.1 dX0_deathsIn_100 (by decide) ?_
        obtain ⟨u4312, hR, hE⟩ := it_b hE
        have hJ134u4312 : ∀ (H : Heap) (locs : List Loc) (ls : Array Slot), va_P G.1 vwCl (xW G.2 ad v_latestFault v_died v_leastWeight v_noticedBy v_noticed v_orderDied v_orderLeast v_imaged v_shelves v_refusals v_ran v_bodies v_tweight v_tfright v_tage v_tasked v_told v_bestRow u4312.2.1 u4312.2.2.1 u4312.2.2.2.1 u4312.2.2.2.2.1 u4312.2.2.2.2.2.1 u4312.2.2.2.2.2.2.1 u4312.2.2.2.2.2.2.2.1 u4312.2.2.2.2.2.2.2.2 r4309.1 r4309.2.1 r4309.2.2 r4305.2.2.2 v_weight_a4 v_fright_a4 v_age_a4 v_asked_a4 v_many v_pets v_last v_seed v_weight v_fright v_age v_asked v_homes v_marks v_had v_allergic v_deaths) H → va_S (nA (xWV ad)) s.heap H locs → lv_has ls 8 [(0, .ref (ad 0)), (1, .ref (ad 16)), (2, .int 3), (3, .int x3), (4, .int x4), (6, .int x6)] → W p l e ({ frames := 7, cells := 0, slots := 0, locals := 160 } : Room) s m args below meth c H locs 0 0 Q (F0 m 134 ls [.int u4312.1, .int x5]) := by
          intro H locs ls hP hS hl
          refine lv_iadd C.1 C.2.1 dX0_deathsIn_134 ?_
          refine lv_istore (lv' := [(5, .int (x5 + u4312.1)), (0, .ref (ad 0)), (1, .ref (ad 16)), (2, .int 3), (3, .int x3), (4, .int x4), (6, .int x6)]) C.1 C.2.1 dX0_deathsIn_135 hl (by decide) rfl (fun ls hl => ?_)
          obtain rfl := Option.some.inj hE
          exact hJ137u4304 H locs ls hP hS (lv_sub hl [1, 2, 3, 4, 5, 0, 6] rfl)
        have hE := hR
        refine lv_icmp_ne (tgt := 117) C.1 C.2.1 dX0_deathsIn_101 (by decide) (fun c4311 => ?_) (fun c4311 => ?_)
        · have hE := it_f c4311 hE
          refine lv_iload_n C.1 C.2.1 dX0_deathsIn_117 rfl (lv_at hl 4 rfl) ?_
          refine lv_iconst (v := (-1)) C.1 C.2.1 dX0_deathsIn_118 (by decide) ?_
          refine lv_icmp_eq (tgt := 128) C.1 C.2.1 dX0_deathsIn_119 (by decide) (fun c4313 => ?_) (fun c4313 => ?_)
          · have hE := it_t c4313 hE
            refine lv_iload C.1 C.2.1 dX0_deathsIn_128 (lv_at hl 5 rfl) ?_
            refine lv_goto (tgt := 134) C.1 C.2.1 dX0_deathsIn_130 (by decide) ?_
            obtain rfl := Option.some.inj hE
            exact hJ134u4312 H locs ls hP hS (lv_sub hl [1, 2, 3, 4, 5, 7] rfl)
          · have hE := it_f c4313 hE
            refine lv_iload_n C.1 C.2.1 dX0_deathsIn_122 rfl (lv_at hl 4 rfl) ?_
            refine lv_iload C.1 C.2.1 dX0_deathsIn_123 (lv_at hl 7 rfl) ?_
            refine lv_icmp_ne (tgt := 133) C.1 C.2.1 dX0_deathsIn_125 (by decide) (fun c4314 => ?_) (fun c4314 => ?_)
            · have hE := it_f c4314 hE
              refine lv_iconst (v := 0) C.1 C.2.1 dX0_deathsIn_133 (by decide) ?_
              obtain rfl := Option.some.inj hE
              exact hJ134u4312 H locs ls hP hS (lv_sub hl [1, 2, 3, 4, 5, 7] rfl)
            · have hE := it_t c4314 hE
              refine lv_iload C.1 C.2.1 dX0_deathsIn_128 (lv_at hl 5 rfl) ?_
              refine lv_goto (tgt := 134) C.1 C.2.1 dX0_deathsIn_130 (by decide) ?_
              obtain rfl := Option.some.inj hE
              exact hJ134u4312 H locs ls hP hS (lv_sub hl [1, 2, 3, 4, 5, 7] rfl)
        · have hE := it_t c4311 hE
          refine lv_aload_n C.1 C.2.1 dX0_deathsIn_104 rfl (lv_at hl 1 rfl) ?_
          refine lv_aload C.1 C.2.1 dX0_deathsIn_105 (lv_at hl 0 rfl) ?_
          refine lv_iload_n C.1 C.2.1 dX0_deathsIn_107 rfl (lv_at hl 3 rfl) ?_
          refine lv_iconst (v := 1) C.1 C.2.1 dX0_deathsIn_108 (by decide) ?_
          refine lv_isub C.1 C.2.1 dX0_deathsIn_109 ?_
          rw [show (3 : Int32) - 1 = 2 from by decide]
          refine lv_iload_n C.1 C.2.1 dX0_deathsIn_110 rfl (lv_at hl 4 rfl) ?_
          obtain ⟨r4315, hr4315, hE⟩ := it_b hE
          refine n_afterS C.2.2.2.2.2.2.2.1 hS (va_runV (As := [.ref (ad 14), .int 2, .int x3]) (rest := [.int x5]) ⟨C.1, C.2.1, hml, C.2.2.1, C.2.2.2.1⟩ (metC_HW_deathsIn_14_2 l G ad pl hk hb _ _ _ _ _ _ _ _ _ _ _ _ _ _ _ _ _ _ _ _ _ _ _ _ _ _ _ _ _ _ _ _ _ _ _ _ _ _ _ _ _ _ _ _ _ _ _ hom x3  r4315 hr4315) (cwV (C := RX0) 3 C.2.2.2.1 (lw_V q1154 q1156 qs28 q80 q1157) rfl rfl rfl (by decide +kernel) ⟨Nat.le_of_ble_eq_true rfl, Nat.le_of_ble_eq_true rfl⟩) (n_preV0 C hP hS (va_recv C.2.2.2.2.1 hP (ci := 16) (q0 := 0) rfl rfl)) rfl rfl hl.1 rfl (lv_room (Nat.le_of_ble_eq_true rfl)) dX0_deathsIn_111 ⟨Nat.le_refl _, Nat.le_refl _⟩) (fun H locs hP hS => ?_)
          refine lv_goto (tgt := 134) C.1 C.2.1 dX0_deathsIn_114 (by decide) ?_
          obtain rfl := Option.some.inj hE
          exact hJ134u4312 H locs ls hP hS (lv_sub hl [1, 2, 3, 4, 5, 7] rfl)
set_option maxHeartbeats 4000000 in
theorem metC_HW_deathsIn_16_3 (l : Launch) (G : kG) (ad : Nat → Nat) (pl : va_W) (hk : Nat → Nat) (hb : Nat → Int32) (v_latestFault : Int32) (v_died : Int32) (v_leastWeight : Int32) (v_noticedBy : Int32) (v_noticed : Int32) (v_orderDied : Int32) (v_orderLeast : Int32) (v_imaged : Option Nat) (v_shelves : Nat → Option Nat) (v_refusals : Nat → Int32) (v_ran : Int32) (v_bodies : Nat → Int32) (v_tweight : Int32) (v_tfright : Int32) (v_tage : Int32) (v_tasked : Nat → Int32) (v_told : Nat → Int32) (v_bestRow : Nat → Int32) (v_weight_a1 : Int32) (v_fright_a1 : Int32) (v_age_a1 : Int32) (v_asked_a1 : Nat → Int32) (v_weight_a2 : Int32) (v_fright_a2 : Int32) (v_age_a2 : Int32) (v_asked_a2 : Nat → Int32) (v_weight_a3 : Int32) (v_fright_a3 : Int32) (v_age_a3 : Int32) (v_asked_a3 : Nat → Int32) (v_weight_a4 : Int32) (v_fright_a4 : Int32) (v_age_a4 : Int32) (v_asked_a4 : Nat → Int32) (v_many : Int32) (v_pets : Int32) (v_last : Int32) (v_seed : Int32) (v_weight : Int32) (v_fright : Int32) (v_age : Int32) (v_asked : Nat → Int32) (v_homes : Nat → Option Nat) (v_marks : Nat → Int32) (v_had : Nat → Int32) (v_allergic : Nat → Int32) (v_deaths : Nat → Int32) (hom : homOK v_homes v_many hk hb pl) (p3 : Int32) (res : Int32 × Int32 × Int32 × Int32 × (Nat → Int32) × Int32 × Int32 × Int32 × (Nat → Int32) × Int32 × Int32 × Int32 × (Nat → Int32)) (hE : sC_HW_deathsIn_16_3 v_weight_a1 v_fright_a1 v_age_a1 v_asked_a1 v_weight_a2 v_fright_a2 v_age_a2 v_asked_a2 v_weight_a3 v_fright_a3 v_age_a3 v_asked_a3 v_weight_a4 v_fright_a4 v_age_a4 v_asked_a4 v_many v_homes v_allergic hk hb p3 = some res) : Met l yX0_deathsIn (ws_ yX0_deathsIn cX0_deathsIn 8 (some .int)) ({ frames := 7, cells := 0, slots := 0, locals := 160 } : Room) (nPc G (xW G.2 ad v_latestFault v_died v_leastWeight v_noticedBy v_noticed v_orderDied v_orderLeast v_imaged v_shelves v_refusals v_ran v_bodies v_tweight v_tfright v_tage v_tasked v_told v_bestRow v_weight_a1 v_fright_a1 v_age_a1 v_asked_a1 v_weight_a2 v_fright_a2 v_age_a2 v_asked_a2 v_weight_a3 v_fright_a3 v_age_a3 v_asked_a3 v_weight_a4 v_fright_a4 v_age_a4 v_asked_a4 v_many v_pets v_last v_seed v_weight v_fright v_age v_asked v_homes v_marks v_had v_allergic v_deaths) pl (xWV ad) [.ref (ad 0), .ref (ad 16), .int 3, .int p3]) (nQc G (xW G.2 ad v_latestFault v_died v_leastWeight v_noticedBy v_noticed v_orderDied v_orderLeast v_imaged v_shelves v_refusals v_ran v_bodies v_tweight v_tfright v_tage v_tasked v_told v_bestRow res.2.1 res.2.2.1 res.2.2.2.1 res.2.2.2.2.1 res.2.2.2.2.2.1 res.2.2.2.2.2.2.1 res.2.2.2.2.2.2.2.1 res.2.2.2.2.2.2.2.2.1 res.2.2.2.2.2.2.2.2.2.1 res.2.2.2.2.2.2.2.2.2.2.1 res.2.2.2.2.2.2.2.2.2.2.2.1 res.2.2.2.2.2.2.2.2.2.2.2.2 v_weight_a4 v_fright_a4 v_age_a4 v_asked_a4 v_many v_pets v_last v_seed v_weight v_fright v_age v_asked v_homes v_marks v_had v_allergic v_deaths) (xWV ad) (some (.int res.1))) 0 0 (nA (xWV ad)) := by
  refine n_ofW (own := RX0) (by decide) rfl (Nat.le_of_ble_eq_true rfl) ?_
  intro p e s m args below meth c ls C hml hP hS hl hr hlocks
  have hl : lv_has ls 8 [(0, .ref (ad 0)), (1, .ref (ad 16)), (2, .int 3), (3, .int p3)] := hl
  obtain ⟨Q, hQ⟩ : ∃ Q, Q = MQ below (nQc G (xW G.2 ad v_latestFault v_died v_leastWeight v_noticedBy v_noticed v_orderDied v_orderLeast v_imaged v_shelves v_refusals v_ran v_bodies v_tweight v_tfright v_tage v_tasked v_told v_bestRow res.2.1 res.2.2.1 res.2.2.2.1 res.2.2.2.2.1 res.2.2.2.2.2.1 res.2.2.2.2.2.2.1 res.2.2.2.2.2.2.2.1 res.2.2.2.2.2.2.2.2.1 res.2.2.2.2.2.2.2.2.2.1 res.2.2.2.2.2.2.2.2.2.2.1 res.2.2.2.2.2.2.2.2.2.2.2.1 res.2.2.2.2.2.2.2.2.2.2.2.2 v_weight_a4 v_fright_a4 v_age_a4 v_asked_a4 v_many v_pets v_last v_seed v_weight v_fright v_age v_asked v_homes v_marks v_had v_allergic v_deaths) (xWV ad) (some (.int res.1))) args s 0 0 (nA (xWV ad)) := ⟨_, rfl⟩
  rw [← hQ]
  have hret : ∀ (pc : Nat) (ls : Array Slot) (H : Heap) (locs : List Loc), decode cX0_deathsIn pc = .ok (.ireturn, 1) → va_P G.1 vwCl (xW G.2 ad v_latestFault v_died v_leastWeight v_noticedBy v_noticed v_orderDied v_orderLeast v_imaged v_shelves v_refusals v_ran v_bodies v_tweight v_tfright v_tage v_tasked v_told v_bestRow res.2.1 res.2.2.1 res.2.2.2.1 res.2.2.2.2.1 res.2.2.2.2.2.1 res.2.2.2.2.2.2.1 res.2.2.2.2.2.2.2.1 res.2.2.2.2.2.2.2.2.1 res.2.2.2.2.2.2.2.2.2.1 res.2.2.2.2.2.2.2.2.2.2.1 res.2.2.2.2.2.2.2.2.2.2.2.1 res.2.2.2.2.2.2.2.2.2.2.2.2 v_weight_a4 v_fright_a4 v_age_a4 v_asked_a4 v_many v_pets v_last v_seed v_weight v_fright v_age v_asked v_homes v_marks v_had v_allergic v_deaths) H → va_S (nA (xWV ad)) s.heap H locs → W p l e ({ frames := 7, cells := 0, slots := 0, locals := 160 } : Room) s m args below meth c H locs 0 0 Q (F0 m pc ls [(.int res.1)]) := by
    intro pc ls H locs hd hP hS
    rw [hQ]
    exact n_iret C hr hlocks hd hP hS
  clear hQ
  obtain ⟨H, hH⟩ : ∃ H, H = s.heap := ⟨_, rfl⟩
  obtain ⟨locs, hlo⟩ : ∃ locs : List Loc, locs = [] := ⟨_, rfl⟩
  have hP : va_P G.1 vwCl (xW G.2 ad v_latestFault v_died v_leastWeight v_noticedBy v_noticed v_orderDied v_orderLeast v_imaged v_shelves v_refusals v_ran v_bodies v_tweight v_tfright v_tage v_tasked v_told v_bestRow v_weight_a1 v_fright_a1 v_age_a1 v_asked_a1 v_weight_a2 v_fright_a2 v_age_a2 v_asked_a2 v_weight_a3 v_fright_a3 v_age_a3 v_asked_a3 v_weight_a4 v_fright_a4 v_age_a4 v_asked_a4 v_many v_pets v_last v_seed v_weight v_fright v_age v_asked v_homes v_marks v_had v_allergic v_deaths) H := by rw [hH]; exact hP
  have hS : va_S (nA (xWV ad)) s.heap H locs := by rw [hH, hlo]; exact hS
  suffices hZ : W p l e ({ frames := 7, cells := 0, slots := 0, locals := 160 } : Room) s m args below meth c H locs 0 0 Q (F0 m 0 ls []) by rw [hH, hlo] at hZ; exact hZ
  clear hH hlo
  unfold sC_HW_deathsIn_16_3 at hE
  refine lv_iload_n C.1 C.2.1 dX0_deathsIn_0 rfl (lv_at hl 2 rfl) ?_
  refine lv_if_ne (tgt := 6) C.1 C.2.1 dX0_deathsIn_1 (by decide) (fun c1 => ?_) (fun c1 => absurd c1 (by decide))
  refine lv_iconst (v := 1) C.1 C.2.1 dX0_deathsIn_6 (by decide) ?_
  refine lv_istore (lv' := [(4, .int 1), (0, .ref (ad 0)), (1, .ref (ad 16)), (2, .int 3), (3, .int p3)]) C.1 C.2.1 dX0_deathsIn_7 hl (by decide) rfl (fun ls hl => ?_)
  refine lv_iconst (v := 1) C.1 C.2.1 dX0_deathsIn_9 (by decide) ?_
  refine lv_istore (lv' := [(5, .int 1), (4, .int 1), (0, .ref (ad 0)), (1, .ref (ad 16)), (2, .int 3), (3, .int p3)]) C.1 C.2.1 dX0_deathsIn_10 hl (by decide) rfl (fun ls hl => ?_)
  obtain ⟨u2, hu2, hE⟩ := it_b hE
  refine wC_HW_deathsIn_16_3_h12 C hml  hom p3 u2 2000 1 1 H locs ls hu2 hP hS (lv_sub hl [2, 3, 4, 5, 1, 0] rfl) (fun H locs ls hP hS hl => ?_)
  refine lv_iconst (v := 0) C.1 C.2.1 dX0_deathsIn_36 (by decide) ?_
  refine lv_istore (lv' := [(5, .int 0), (0, .ref (ad 0)), (1, .ref (ad 16)), (2, .int 3), (3, .int p3), (4, .int u2)]) C.1 C.2.1 dX0_deathsIn_37 hl (by decide) rfl (fun ls hl => ?_)
  refine lv_iconst (v := 0) C.1 C.2.1 dX0_deathsIn_39 (by decide) ?_
  refine lv_istore (lv' := [(6, .int 0), (5, .int 0), (0, .ref (ad 0)), (1, .ref (ad 16)), (2, .int 3), (3, .int p3), (4, .int u2)]) C.1 C.2.1 dX0_deathsIn_40 hl (by decide) rfl (fun ls hl => ?_)
  obtain ⟨u3, hu3, hE⟩ := it_b hE
  refine wC_HW_deathsIn_16_3_h42 C hml  hom p3 u2 u3 2000 0 0 v_weight_a1 v_fright_a1 v_age_a1 v_asked_a1 v_weight_a2 v_fright_a2 v_age_a2 v_asked_a2 v_weight_a3 v_fright_a3 v_age_a3 v_asked_a3 H locs ls hu3 hP hS (lv_sub hl [2, 3, 4, 5, 6, 1, 0] rfl) (fun H locs ls hP hS hl => ?_)
  refine lv_iload C.1 C.2.1 dX0_deathsIn_143 (lv_at hl 0 rfl) ?_
  obtain rfl := Option.some.inj hE
  exact hret _ _ _ _ dX0_deathsIn_145 hP hS
def sC_HW_deathsIn_19_4_h12 (v_many : Int32) (v_allergic : Nat → Int32) : Nat → Int32 → Int32 → Option (Int32)
  | 0, _, _ => none
  | fuel + 1, x4, x5 =>
    if 4 ≤ x5 then
      some x4
    else
      (sC_Room_mayMany v_many v_allergic).bind fun r1302 =>
      sC_HW_deathsIn_19_4_h12 v_many v_allergic fuel (x4 * r1302) (x5 + 1)
def sC_HW_deathsIn_19_4_h42 (x3 : Int32) (x4 : Int32) (v_many : Int32) (v_weight : Int32) (v_fright : Int32) (v_age : Int32) (v_asked : Nat → Int32) (v_homes : Nat → Option Nat) (v_allergic : Nat → Int32) (hk : Nat → Nat) (hb : Nat → Int32) : Nat → Int32 → Int32 → Int32 → Int32 → Int32 → (Nat → Int32) → Int32 → Int32 → Int32 → (Nat → Int32) → Int32 → Int32 → Int32 → (Nat → Int32) → Int32 → Int32 → Int32 → (Nat → Int32) → Option (Int32 × Int32 × Int32 × Int32 × (Nat → Int32) × Int32 × Int32 × Int32 × (Nat → Int32) × Int32 × Int32 × Int32 × (Nat → Int32) × Int32 × Int32 × Int32 × (Nat → Int32))
  | 0, _, _, _, _, _, _, _, _, _, _, _, _, _, _, _, _, _, _ => none
  | fuel + 1, x5, x6, v_weight_a1, v_fright_a1, v_age_a1, v_asked_a1, v_weight_a2, v_fright_a2, v_age_a2, v_asked_a2, v_weight_a3, v_fright_a3, v_age_a3, v_asked_a3, v_weight_a4, v_fright_a4, v_age_a4, v_asked_a4 =>
    if v_many ≤ x6 then
      some (x5, v_weight_a1, v_fright_a1, v_age_a1, v_asked_a1, v_weight_a2, v_fright_a2, v_age_a2, v_asked_a2, v_weight_a3, v_fright_a3, v_age_a3, v_asked_a3, v_weight_a4, v_fright_a4, v_age_a4, v_asked_a4)
    else
      (sC_Room_may v_many v_allergic x6).bind fun r4302 =>
      @Option.bind (Int32 × Int32 × Int32 × Int32 × (Nat → Int32) × Int32 × Int32 × Int32 × (Nat → Int32) × Int32 × Int32 × Int32 × (Nat → Int32) × Int32 × Int32 × Int32 × (Nat → Int32)) _ (
        if r4302 = 0 then
          some (x5, v_weight_a1, v_fright_a1, v_age_a1, v_asked_a1, v_weight_a2, v_fright_a2, v_age_a2, v_asked_a2, v_weight_a3, v_fright_a3, v_age_a3, v_asked_a3, v_weight_a4, v_fright_a4, v_age_a4, v_asked_a4)
        else
          (sC_Pet_take v_weight_a4 v_fright_a4 v_age_a4 v_asked_a4 v_weight v_fright v_age v_asked).bind fun r4305 =>
          if gi x6 8 then
          if gm x6 v_many then
          (sC_Pet_week_H r4305.1 r4305.2.1 r4305.2.2.1 r4305.2.2.2 (hk (x6).toNatClampNeg) x6 (hb (x6).toNatClampNeg)).bind fun r4309 =>
          (sC_Pet_dies r4309.1 r4309.2.1 r4309.2.2 r4305.2.2.2).bind fun r4310 =>
          @Option.bind (Int32 × Int32 × Int32 × Int32 × (Nat → Int32) × Int32 × Int32 × Int32 × (Nat → Int32) × Int32 × Int32 × Int32 × (Nat → Int32)) _ (
            if r4310 = (-1) then
              (sC_HW_deathsIn_16_3 v_weight_a1 v_fright_a1 v_age_a1 v_asked_a1 v_weight_a2 v_fright_a2 v_age_a2 v_asked_a2 v_weight_a3 v_fright_a3 v_age_a3 v_asked_a3 r4309.1 r4309.2.1 r4309.2.2 r4305.2.2.2 v_many v_homes v_allergic hk hb x3).bind fun r4315 =>
              some (r4315.1, r4315.2.1, r4315.2.2.1, r4315.2.2.2.1, r4315.2.2.2.2.1, r4315.2.2.2.2.2.1, r4315.2.2.2.2.2.2.1, r4315.2.2.2.2.2.2.2.1, r4315.2.2.2.2.2.2.2.2.1, r4315.2.2.2.2.2.2.2.2.2.1, r4315.2.2.2.2.2.2.2.2.2.2.1, r4315.2.2.2.2.2.2.2.2.2.2.2.1, r4315.2.2.2.2.2.2.2.2.2.2.2.2)
            else
              if x3 = (-1) then
                some (x4, v_weight_a1, v_fright_a1, v_age_a1, v_asked_a1, v_weight_a2, v_fright_a2, v_age_a2, v_asked_a2, v_weight_a3, v_fright_a3, v_age_a3, v_asked_a3)
              else
                if x3 = x6 then
                  some (x4, v_weight_a1, v_fright_a1, v_age_a1, v_asked_a1, v_weight_a2, v_fright_a2, v_age_a2, v_asked_a2, v_weight_a3, v_fright_a3, v_age_a3, v_asked_a3)
                else
                  some (0, v_weight_a1, v_fright_a1, v_age_a1, v_asked_a1, v_weight_a2, v_fright_a2, v_age_a2, v_asked_a2, v_weight_a3, v_fright_a3, v_age_a3, v_asked_a3)) fun u4312 =>
          some ((x5 + u4312.1), u4312.2.1, u4312.2.2.1, u4312.2.2.2.1, u4312.2.2.2.2.1, u4312.2.2.2.2.2.1, u4312.2.2.2.2.2.2.1, u4312.2.2.2.2.2.2.2.1, u4312.2.2.2.2.2.2.2.2.1, u4312.2.2.2.2.2.2.2.2.2.1, u4312.2.2.2.2.2.2.2.2.2.2.1, u4312.2.2.2.2.2.2.2.2.2.2.2.1, u4312.2.2.2.2.2.2.2.2.2.2.2.2, r4309.1, r4309.2.1, r4309.2.2, r4305.2.2.2)
          else none
          else none) fun u4304 =>
      sC_HW_deathsIn_19_4_h42 x3 x4 v_many v_weight v_fright v_age v_asked v_homes v_allergic hk hb fuel u4304.1 (x6 + 1) u4304.2.1 u4304.2.2.1 u4304.2.2.2.1 u4304.2.2.2.2.1 u4304.2.2.2.2.2.1 u4304.2.2.2.2.2.2.1 u4304.2.2.2.2.2.2.2.1 u4304.2.2.2.2.2.2.2.2.1 u4304.2.2.2.2.2.2.2.2.2.1 u4304.2.2.2.2.2.2.2.2.2.2.1 u4304.2.2.2.2.2.2.2.2.2.2.2.1 u4304.2.2.2.2.2.2.2.2.2.2.2.2.1 u4304.2.2.2.2.2.2.2.2.2.2.2.2.2.1 u4304.2.2.2.2.2.2.2.2.2.2.2.2.2.2.1 u4304.2.2.2.2.2.2.2.2.2.2.2.2.2.2.2.1 u4304.2.2.2.2.2.2.2.2.2.2.2.2.2.2.2.2
def sC_HW_deathsIn_19_4 (v_weight_a1 : Int32) (v_fright_a1 : Int32) (v_age_a1 : Int32) (v_asked_a1 : Nat → Int32) (v_weight_a2 : Int32) (v_fright_a2 : Int32) (v_age_a2 : Int32) (v_asked_a2 : Nat → Int32) (v_weight_a3 : Int32) (v_fright_a3 : Int32) (v_age_a3 : Int32) (v_asked_a3 : Nat → Int32) (v_weight_a4 : Int32) (v_fright_a4 : Int32) (v_age_a4 : Int32) (v_asked_a4 : Nat → Int32) (v_many : Int32) (v_weight : Int32) (v_fright : Int32) (v_age : Int32) (v_asked : Nat → Int32) (v_homes : Nat → Option Nat) (v_allergic : Nat → Int32) (hk : Nat → Nat) (hb : Nat → Int32) (p3 : Int32) : Option (Int32 × Int32 × Int32 × Int32 × (Nat → Int32) × Int32 × Int32 × Int32 × (Nat → Int32) × Int32 × Int32 × Int32 × (Nat → Int32) × Int32 × Int32 × Int32 × (Nat → Int32)) :=
  (sC_HW_deathsIn_19_4_h12 v_many v_allergic 2000 1 1).bind fun u2 =>
  (sC_HW_deathsIn_19_4_h42 p3 u2 v_many v_weight v_fright v_age v_asked v_homes v_allergic hk hb 2000 0 0 v_weight_a1 v_fright_a1 v_age_a1 v_asked_a1 v_weight_a2 v_fright_a2 v_age_a2 v_asked_a2 v_weight_a3 v_fright_a3 v_age_a3 v_asked_a3 v_weight_a4 v_fright_a4 v_age_a4 v_asked_a4).bind fun u3 =>
  some (u3.1, u3.2.1, u3.2.2.1, u3.2.2.2.1, u3.2.2.2.2.1, u3.2.2.2.2.2.1, u3.2.2.2.2.2.2.1, u3.2.2.2.2.2.2.2.1, u3.2.2.2.2.2.2.2.2.1, u3.2.2.2.2.2.2.2.2.2.1, u3.2.2.2.2.2.2.2.2.2.2.1, u3.2.2.2.2.2.2.2.2.2.2.2.1, u3.2.2.2.2.2.2.2.2.2.2.2.2.1, u3.2.2.2.2.2.2.2.2.2.2.2.2.2.1, u3.2.2.2.2.2.2.2.2.2.2.2.2.2.2.1, u3.2.2.2.2.2.2.2.2.2.2.2.2.2.2.2.1, u3.2.2.2.2.2.2.2.2.2.2.2.2.2.2.2.2)
set_option maxHeartbeats 4000000 in
theorem wC_HW_deathsIn_19_4_h12 {p : Program} {l : Launch} {e : Env} {s : State} {m : MethodId} {args : Array Value} {below : List Frame} {meth : Method} {c : Code} {Q : State → Prop} {G : kG} {ad : Nat → Nat} {pl : va_W} {hk : Nat → Nat} {hb : Nat → Int32} {v_latestFault : Int32} {v_died : Int32} {v_leastWeight : Int32} {v_noticedBy : Int32} {v_noticed : Int32} {v_orderDied : Int32} {v_orderLeast : Int32} {v_imaged : Option Nat} {v_shelves : Nat → Option Nat} {v_refusals : Nat → Int32} {v_ran : Int32} {v_bodies : Nat → Int32} {v_tweight : Int32} {v_tfright : Int32} {v_tage : Int32} {v_tasked : Nat → Int32} {v_told : Nat → Int32} {v_bestRow : Nat → Int32} {v_weight_a1 : Int32} {v_fright_a1 : Int32} {v_age_a1 : Int32} {v_asked_a1 : Nat → Int32} {v_weight_a2 : Int32} {v_fright_a2 : Int32} {v_age_a2 : Int32} {v_asked_a2 : Nat → Int32} {v_weight_a3 : Int32} {v_fright_a3 : Int32} {v_age_a3 : Int32} {v_asked_a3 : Nat → Int32} {v_weight_a4 : Int32} {v_fright_a4 : Int32} {v_age_a4 : Int32} {v_asked_a4 : Nat → Int32} {v_many : Int32} {v_pets : Int32} {v_last : Int32} {v_seed : Int32} {v_weight : Int32} {v_fright : Int32} {v_age : Int32} {v_asked : Nat → Int32} {v_homes : Nat → Option Nat} {v_marks : Nat → Int32} {v_had : Nat → Int32} {v_allergic : Nat → Int32} {v_deaths : Nat → Int32} (C : nC p s m args c cX0_deathsIn RX0 G (xWV ad) pl (nA (xWV ad))) (hml : c.maxLocals = 8)  (hom : homOK v_homes v_many hk hb pl) (x3 : Int32) (res : Int32) :
    ∀ (fuel : Nat) (x4 : Int32) (x5 : Int32) (H : Heap) (locs : List Loc) (ls : Array Slot), sC_HW_deathsIn_19_4_h12 v_many v_allergic fuel x4 x5 = some res → va_P G.1 vwCl (xW G.2 ad v_latestFault v_died v_leastWeight v_noticedBy v_noticed v_orderDied v_orderLeast v_imaged v_shelves v_refusals v_ran v_bodies v_tweight v_tfright v_tage v_tasked v_told v_bestRow v_weight_a1 v_fright_a1 v_age_a1 v_asked_a1 v_weight_a2 v_fright_a2 v_age_a2 v_asked_a2 v_weight_a3 v_fright_a3 v_age_a3 v_asked_a3 v_weight_a4 v_fright_a4 v_age_a4 v_asked_a4 v_many v_pets v_last v_seed v_weight v_fright v_age v_asked v_homes v_marks v_had v_allergic v_deaths) H → va_S (nA (xWV ad)) s.heap H locs → lv_has ls 8 [(0, .ref (ad 0)), (1, .ref (ad 19)), (2, .int 4), (3, .int x3), (4, .int x4), (5, .int x5)] → (∀ (H : Heap) (locs : List Loc) (ls : Array Slot), va_P G.1 vwCl (xW G.2 ad v_latestFault v_died v_leastWeight v_noticedBy v_noticed v_orderDied v_orderLeast v_imaged v_shelves v_refusals v_ran v_bodies v_tweight v_tfright v_tage v_tasked v_told v_bestRow v_weight_a1 v_fright_a1 v_age_a1 v_asked_a1 v_weight_a2 v_fright_a2 v_age_a2 v_asked_a2 v_weight_a3 v_fright_a3 v_age_a3 v_asked_a3 v_weight_a4 v_fright_a4 v_age_a4 v_asked_a4 v_many v_pets v_last v_seed v_weight v_fright v_age v_asked v_homes v_marks v_had v_allergic v_deaths) H → va_S (nA (xWV ad)) s.heap H locs → lv_has ls 8 [(0, .ref (ad 0)), (1, .ref (ad 19)), (2, .int 4), (3, .int x3), (4, .int res)] → W p l e ({ frames := 8, cells := 0, slots := 0, locals := 187 } : Room) s m args below meth c H locs 0 0 Q (F0 m 36 ls [])) → W p l e ({ frames := 8, cells := 0, slots := 0, locals := 187 } : Room) s m args below meth c H locs 0 0 Q (F0 m 12 ls []) := by
  intro fuel
  induction fuel with
  | zero =>
    intro x4 x5 H locs ls hE
    exact it_n hE
  | succ fuel ih =>
    intro x4 x5 H locs ls hE hP hS hl hX
    rw [sC_HW_deathsIn_19_4_h12] at hE
    refine lv_iload C.1 C.2.1 dX0_deathsIn_12 (lv_at hl 5 rfl) ?_
    refine lv_iload_n C.1 C.2.1 dX0_deathsIn_14 rfl (lv_at hl 2 rfl) ?_
    refine lv_icmp_ge (tgt := 36) C.1 C.2.1 dX0_deathsIn_15 (by decide) (fun c1301 => ?_) (fun c1301 => ?_)
    · have hE := it_t c1301 hE
      obtain rfl := Option.some.inj hE
      exact hX H locs ls hP hS (lv_sub hl [0, 1, 2, 3, 4] rfl)
    · have hE := it_f c1301 hE
      refine lv_iload C.1 C.2.1 dX0_deathsIn_18 (lv_at hl 4 rfl) ?_
      refine lv_aload_n C.1 C.2.1 dX0_deathsIn_20 rfl (lv_at hl 0 rfl) ?_
      refine xWg_0_6 q244 C hP dX0_deathsIn_21 ?_
      obtain ⟨r1302, hr1302, hE⟩ := it_b hE
      refine n_after [18, 19, 20, 21, 22, 23, 24, 25] C.2.2.2.2.2.1 C.2.2.2.2.2.2.2.1 hP hS (va_runV (As := []) (rest := [.int x4]) ⟨C.1, C.2.1, hml, C.2.2.1, C.2.2.2.1⟩ (metC_Room_mayMany l G (fun i => ad (18 + i)) pl _ _ _ _ _ _ _ _ _ _ _ _ _   r1302 hr1302) (cwV (C := RX3) 0 C.2.2.2.1 (lw_V q1113 q1114 q1115 q83 q1116) rfl rfl rfl (by decide +kernel) ⟨Nat.le_of_ble_eq_true rfl, Nat.le_of_ble_eq_true rfl⟩) (n_preV C hP hS [18, 19, 20, 21, 22, 23, 24, 25] sub_xW_rW_18 (by decide) rfl (va_recv C.2.2.2.2.1 hP (ci := 12) (q0 := 18) rfl rfl)) rfl rfl hl.1 rfl (lv_room (Nat.le_of_ble_eq_true rfl)) dX0_deathsIn_24 ⟨Nat.le_refl _, Nat.le_refl _⟩) xW_av rfl rfl mg_xW_rW_18 (fun H locs hP hS => ?_)
      refine lv_imul C.1 C.2.1 dX0_deathsIn_27 ?_
      refine lv_istore (lv' := [(4, .int (x4 * r1302)), (0, .ref (ad 0)), (1, .ref (ad 19)), (2, .int 4), (3, .int x3), (5, .int x5)]) C.1 C.2.1 dX0_deathsIn_28 hl (by decide) rfl (fun ls hl => ?_)
      refine lv_iinc (v := (x5 + 1)) (lv' := [(5, .int (x5 + 1)), (4, .int (x4 * r1302)), (0, .ref (ad 0)), (1, .ref (ad 19)), (2, .int 4), (3, .int x3)]) C.1 C.2.1 dX0_deathsIn_30 hl (k := 5) rfl rfl (by decide) rfl (fun ls hl => ?_)
      refine lv_goto (tgt := 12) C.1 C.2.1 dX0_deathsIn_33 (by decide) ?_
      exact ih (x4 * r1302) (x5 + 1) _ _ _ hE hP hS (lv_sub hl [2, 3, 4, 5, 1, 0] rfl) hX
set_option maxHeartbeats 4000000 in
theorem wC_HW_deathsIn_19_4_h42 {p : Program} {l : Launch} {e : Env} {s : State} {m : MethodId} {args : Array Value} {below : List Frame} {meth : Method} {c : Code} {Q : State → Prop} {G : kG} {ad : Nat → Nat} {pl : va_W} {hk : Nat → Nat} {hb : Nat → Int32} {v_latestFault : Int32} {v_died : Int32} {v_leastWeight : Int32} {v_noticedBy : Int32} {v_noticed : Int32} {v_orderDied : Int32} {v_orderLeast : Int32} {v_imaged : Option Nat} {v_shelves : Nat → Option Nat} {v_refusals : Nat → Int32} {v_ran : Int32} {v_bodies : Nat → Int32} {v_tweight : Int32} {v_tfright : Int32} {v_tage : Int32} {v_tasked : Nat → Int32} {v_told : Nat → Int32} {v_bestRow : Nat → Int32} {v_many : Int32} {v_pets : Int32} {v_last : Int32} {v_seed : Int32} {v_weight : Int32} {v_fright : Int32} {v_age : Int32} {v_asked : Nat → Int32} {v_homes : Nat → Option Nat} {v_marks : Nat → Int32} {v_had : Nat → Int32} {v_allergic : Nat → Int32} {v_deaths : Nat → Int32} (C : nC p s m args c cX0_deathsIn RX0 G (xWV ad) pl (nA (xWV ad))) (hml : c.maxLocals = 8)  (hom : homOK v_homes v_many hk hb pl) (x3 : Int32) (x4 : Int32) (res : Int32 × Int32 × Int32 × Int32 × (Nat → Int32) × Int32 × Int32 × Int32 × (Nat → Int32) × Int32 × Int32 × Int32 × (Nat → Int32) × Int32 × Int32 × Int32 × (Nat → Int32)) :
    ∀ (fuel : Nat) (x5 : Int32) (x6 : Int32) (v_weight_a1 : Int32) (v_fright_a1 : Int32) (v_age_a1 : Int32) (v_asked_a1 : Nat → Int32) (v_weight_a2 : Int32) (v_fright_a2 : Int32) (v_age_a2 : Int32) (v_asked_a2 : Nat → Int32) (v_weight_a3 : Int32) (v_fright_a3 : Int32) (v_age_a3 : Int32) (v_asked_a3 : Nat → Int32) (v_weight_a4 : Int32) (v_fright_a4 : Int32) (v_age_a4 : Int32) (v_asked_a4 : Nat → Int32) (H : Heap) (locs : List Loc) (ls : Array Slot), sC_HW_deathsIn_19_4_h42 x3 x4 v_many v_weight v_fright v_age v_asked v_homes v_allergic hk hb fuel x5 x6 v_weight_a1 v_fright_a1 v_age_a1 v_asked_a1 v_weight_a2 v_fright_a2 v_age_a2 v_asked_a2 v_weight_a3 v_fright_a3 v_age_a3 v_asked_a3 v_weight_a4 v_fright_a4 v_age_a4 v_asked_a4 = some res → va_P G.1 vwCl (xW G.2 ad v_latestFault v_died v_leastWeight v_noticedBy v_noticed v_orderDied v_orderLeast v_imaged v_shelves v_refusals v_ran v_bodies v_tweight v_tfright v_tage v_tasked v_told v_bestRow v_weight_a1 v_fright_a1 v_age_a1 v_asked_a1 v_weight_a2 v_fright_a2 v_age_a2 v_asked_a2 v_weight_a3 v_fright_a3 v_age_a3 v_asked_a3 v_weight_a4 v_fright_a4 v_age_a4 v_asked_a4 v_many v_pets v_last v_seed v_weight v_fright v_age v_asked v_homes v_marks v_had v_allergic v_deaths) H → va_S (nA (xWV ad)) s.heap H locs → lv_has ls 8 [(0, .ref (ad 0)), (1, .ref (ad 19)), (2, .int 4), (3, .int x3), (4, .int x4), (5, .int x5), (6, .int x6)] → (∀ (H : Heap) (locs : List Loc) (ls : Array Slot), va_P G.1 vwCl (xW G.2 ad v_latestFault v_died v_leastWeight v_noticedBy v_noticed v_orderDied v_orderLeast v_imaged v_shelves v_refusals v_ran v_bodies v_tweight v_tfright v_tage v_tasked v_told v_bestRow res.2.1 res.2.2.1 res.2.2.2.1 res.2.2.2.2.1 res.2.2.2.2.2.1 res.2.2.2.2.2.2.1 res.2.2.2.2.2.2.2.1 res.2.2.2.2.2.2.2.2.1 res.2.2.2.2.2.2.2.2.2.1 res.2.2.2.2.2.2.2.2.2.2.1 res.2.2.2.2.2.2.2.2.2.2.2.1 res.2.2.2.2.2.2.2.2.2.2.2.2.1 res.2.2.2.2.2.2.2.2.2.2.2.2.2.1 res.2.2.2.2.2.2.2.2.2.2.2.2.2.2.1 res.2.2.2.2.2.2.2.2.2.2.2.2.2.2.2.1 res.2.2.2.2.2.2.2.2.2.2.2.2.2.2.2.2 v_many v_pets v_last v_seed v_weight v_fright v_age v_asked v_homes v_marks v_had v_allergic v_deaths) H → va_S (nA (xWV ad)) s.heap H locs → lv_has ls 8 [(5, .int res.1)] → W p l e ({ frames := 8, cells := 0, slots := 0, locals := 187 } : Room) s m args below meth c H locs 0 0 Q (F0 m 143 ls [])) → W p l e ({ frames := 8, cells := 0, slots := 0, locals := 187 } : Room) s m args below meth c H locs 0 0 Q (F0 m 42 ls []) := by
  intro fuel
  induction fuel with
  | zero =>
    intro x5 x6 v_weight_a1 v_fright_a1 v_age_a1 v_asked_a1 v_weight_a2 v_fright_a2 v_age_a2 v_asked_a2 v_weight_a3 v_fright_a3 v_age_a3 v_asked_a3 v_weight_a4 v_fright_a4 v_age_a4 v_asked_a4 H locs ls hE
    exact it_n hE
  | succ fuel ih =>
    intro x5 x6 v_weight_a1 v_fright_a1 v_age_a1 v_asked_a1 v_weight_a2 v_fright_a2 v_age_a2 v_asked_a2 v_weight_a3 v_fright_a3 v_age_a3 v_asked_a3 v_weight_a4 v_fright_a4 v_age_a4 v_asked_a4 H locs ls hE hP hS hl hX
    rw [sC_HW_deathsIn_19_4_h42] at hE
    refine lv_iload C.1 C.2.1 dX0_deathsIn_42 (lv_at hl 6 rfl) ?_
    refine lv_aload_n C.1 C.2.1 dX0_deathsIn_44 rfl (lv_at hl 0 rfl) ?_
    refine xWg_0_6 q244 C hP dX0_deathsIn_45 ?_
    refine xWg_18_0 q182 C hP dX0_deathsIn_48 ?_
    refine lv_icmp_ge (tgt := 143) C.1 C.2.1 dX0_deathsIn_51 (by decide) (fun c4301 => ?_) (fun c4301 => ?_)
    · have hE := it_t c4301 hE
      obtain rfl := Option.some.inj hE
      exact hX H locs ls hP hS (lv_sub hl [5] rfl)
    · have hE := it_f c4301 hE
      refine lv_aload_n C.1 C.2.1 dX0_deathsIn_54 rfl (lv_at hl 0 rfl) ?_
      refine xWg_0_6 q244 C hP dX0_deathsIn_55 ?_
      refine lv_iload C.1 C.2.1 dX0_deathsIn_58 (lv_at hl 6 rfl) ?_
      obtain ⟨r4302, hr4302, hE⟩ := it_b hE
      refine n_after [18, 19, 20, 21, 22, 23, 24, 25] C.2.2.2.2.2.1 C.2.2.2.2.2.2.2.1 hP hS (va_runV (As := [.int x6]) (rest := []) ⟨C.1, C.2.1, hml, C.2.2.1, C.2.2.2.1⟩ (metC_Room_may l G (fun i => ad (18 + i)) pl _ _ _ _ _ _ _ _ _ _ _ _ _ x6  r4302 hr4302) (cwV (C := RX3) 1 C.2.2.2.1 (lw_V q1067 q972 q973 q83 q974) rfl rfl rfl (by decide +kernel) ⟨Nat.le_of_ble_eq_true rfl, Nat.le_of_ble_eq_true rfl⟩) (n_preV C hP hS [18, 19, 20, 21, 22, 23, 24, 25] sub_xW_rW_18 (by decide) rfl (va_recv C.2.2.2.2.1 hP (ci := 12) (q0 := 18) rfl rfl)) rfl rfl hl.1 rfl (lv_room (Nat.le_of_ble_eq_true rfl)) dX0_deathsIn_60 ⟨Nat.le_refl _, Nat.le_refl _⟩) xW_av rfl rfl mg_xW_rW_18 (fun H locs hP hS => ?_)
      obtain ⟨u4304, hR, hE⟩ := it_b hE
      have hJ137u4304 : ∀ (H : Heap) (locs : List Loc) (ls : Array Slot), va_P G.1 vwCl (xW G.2 ad v_latestFault v_died v_leastWeight v_noticedBy v_noticed v_orderDied v_orderLeast v_imaged v_shelves v_refusals v_ran v_bodies v_tweight v_tfright v_tage v_tasked v_told v_bestRow u4304.2.1 u4304.2.2.1 u4304.2.2.2.1 u4304.2.2.2.2.1 u4304.2.2.2.2.2.1 u4304.2.2.2.2.2.2.1 u4304.2.2.2.2.2.2.2.1 u4304.2.2.2.2.2.2.2.2.1 u4304.2.2.2.2.2.2.2.2.2.1 u4304.2.2.2.2.2.2.2.2.2.2.1 u4304.2.2.2.2.2.2.2.2.2.2.2.1 u4304.2.2.2.2.2.2.2.2.2.2.2.2.1 u4304.2.2.2.2.2.2.2.2.2.2.2.2.2.1 u4304.2.2.2.2.2.2.2.2.2.2.2.2.2.2.1 u4304.2.2.2.2.2.2.2.2.2.2.2.2.2.2.2.1 u4304.2.2.2.2.2.2.2.2.2.2.2.2.2.2.2.2 v_many v_pets v_last v_seed v_weight v_fright v_age v_asked v_homes v_marks v_had v_allergic v_deaths) H → va_S (nA (xWV ad)) s.heap H locs → lv_has ls 8 [(0, .ref (ad 0)), (1, .ref (ad 19)), (2, .int 4), (3, .int x3), (4, .int x4), (5, .int u4304.1), (6, .int x6)] → W p l e ({ frames := 8, cells := 0, slots := 0, locals := 187 } : Room) s m args below meth c H locs 0 0 Q (F0 m 137 ls []) := by
        intro H locs ls hP hS hl
        refine lv_iinc (v := (x6 + 1)) (lv' := [(6, .int (x6 + 1)), (0, .ref (ad 0)), (1, .ref (ad 19)), (2, .int 4), (3, .int x3), (4, .int x4), (5, .int u4304.1)]) C.1 C.2.1 dX0_deathsIn_137 hl (k := 6) rfl rfl (by decide) rfl (fun ls hl => ?_)
        refine lv_goto (tgt := 42) C.1 C.2.1 dX0_deathsIn_140 (by decide) ?_
        exact ih u4304.1 (x6 + 1) u4304.2.1 u4304.2.2.1 u4304.2.2.2.1 u4304.2.2.2.2.1 u4304.2.2.2.2.2.1 u4304.2.2.2.2.2.2.1 u4304.2.2.2.2.2.2.2.1 u4304.2.2.2.2.2.2.2.2.1 u4304.2.2.2.2.2.2.2.2.2.1 u4304.2.2.2.2.2.2.2.2.2.2.1 u4304.2.2.2.2.2.2.2.2.2.2.2.1 u4304.2.2.2.2.2.2.2.2.2.2.2.2.1 u4304.2.2.2.2.2.2.2.2.2.2.2.2.2.1 u4304.2.2.2.2.2.2.2.2.2.2.2.2.2.2.1 u4304.2.2.2.2.2.2.2.2.2.2.2.2.2.2.2.1 u4304.2.2.2.2.2.2.2.2.2.2.2.2.2.2.2.2 _ _ _ hE hP hS (lv_sub hl [1, 2, 3, 4, 5, 6, 0] rfl) hX
      have hE := hR
      refine lv_if_eq (tgt := 137) C.1 C.2.1 dX0_deathsIn_63 (by decide) (fun c4303 => ?_) (fun c4303 => ?_)
      · have hE := it_t c4303 hE
        obtain rfl := Option.some.inj hE
        exact hJ137u4304 H locs ls hP hS (lv_sub hl [0, 1, 2, 3, 4, 5, 6] rfl)
      · have hE := it_f c4303 hE
        refine lv_aload_n C.1 C.2.1 dX0_deathsIn_66 rfl (lv_at hl 0 rfl) ?_
        refine xWg_0_15 q253 C hP dX0_deathsIn_67 ?_
        refine lv_iload_n C.1 C.2.1 dX0_deathsIn_70 rfl (lv_at hl 2 rfl) ?_
        refine xWl_9 (v := some (ad 16)) C hP (gi_in (by decide)) rfl dX0_deathsIn_71 ?_
        refine lv_aload_n C.1 C.2.1 dX0_deathsIn_72 rfl (lv_at hl 1 rfl) ?_
        obtain ⟨r4305, hr4305, hE⟩ := it_b hE
        refine n_after [16, 17, 19, 20] C.2.2.2.2.2.1 C.2.2.2.2.2.2.2.1 hP hS (va_runV (As := [.ref (ad 19)]) (rest := []) ⟨C.1, C.2.1, hml, C.2.2.1, C.2.2.2.1⟩ (metC_Pet_take l G (fun i => ad (if i < 2 then 16 + i else 19 + (i - 2))) pl _ _ _ _ _ _ _ _   r4305 hr4305) (cwV (C := RX2) 1 C.2.2.2.1 (lw_V q1076 q796 q797 q82 q798) rfl rfl rfl (by decide +kernel) ⟨Nat.le_of_ble_eq_true rfl, Nat.le_of_ble_eq_true rfl⟩) (n_preV C hP hS [16, 17, 19, 20] sub_xW_ppW_16_19 (by decide) rfl (va_recv C.2.2.2.2.1 hP (ci := 11) (q0 := 16) rfl rfl)) rfl rfl hl.1 rfl (lv_room (Nat.le_of_ble_eq_true rfl)) dX0_deathsIn_73 ⟨Nat.le_refl _, Nat.le_refl _⟩) xW_av rfl rfl mg_xW_ppW_16_19 (fun H locs hP hS => ?_)
        refine lv_astore (lv' := [(7, .ref (ad 16)), (0, .ref (ad 0)), (1, .ref (ad 19)), (2, .int 4), (3, .int x3), (4, .int x4), (5, .int x5), (6, .int x6)]) C.1 C.2.1 dX0_deathsIn_76 hl (by decide) rfl (fun ls hl => ?_)
        refine lv_aload C.1 C.2.1 dX0_deathsIn_78 (lv_at hl 0 rfl) ?_
        refine lv_aload_n C.1 C.2.1 dX0_deathsIn_80 rfl (lv_at hl 1 rfl) ?_
        refine xWg_0_6 q244 C hP dX0_deathsIn_81 ?_
        refine xWg_18_5 q193 C hP dX0_deathsIn_84 ?_
        refine lv_iload C.1 C.2.1 dX0_deathsIn_87 (lv_at hl 7 rfl) ?_
        obtain ⟨g4306, hE⟩ := it_g hE
        obtain ⟨g4307, hE⟩ := it_g hE
        obtain ⟨q4308, hq43080, hq4308, hq43087⟩ := hom _ g4307
        refine xWl_21 (v := some q4308) C hP (gi_in g4306) hq43080 dX0_deathsIn_89 ?_
        obtain ⟨r4309, hr4309, hE⟩ := it_b hE
        refine n_after [16, 17] C.2.2.2.2.2.1 C.2.2.2.2.2.2.2.1 hP hS (va_runV (As := [.ref q4308]) (rest := []) ⟨C.1, C.2.1, hml, C.2.2.1, C.2.2.2.1⟩ (metC_Pet_week_H l G (fun i => ad (16 + i)) pl _ _ _ _ q4308 (hk (x6).toNatClampNeg) x6 (hb (x6).toNatClampNeg) hq43087 hq4308 r4309 hr4309) (cwV (C := RX2) 1 C.2.2.2.1 (lw_V q1082 q985 q986 q82 q987) rfl rfl rfl (by decide +kernel) ⟨Nat.le_of_ble_eq_true rfl, Nat.le_of_ble_eq_true rfl⟩) (n_preV C hP hS [16, 17] sub_xW_pW_16 (by decide) rfl (va_recv C.2.2.2.2.1 hP (ci := 11) (q0 := 16) rfl rfl)) rfl rfl hl.1 rfl (lv_room (Nat.le_of_ble_eq_true rfl)) dX0_deathsIn_90 ⟨Nat.le_refl _, Nat.le_refl _⟩) xW_av rfl rfl mg_xW_pW_16 (fun H locs hP hS => ?_)
        refine lv_iload C.1 C.2.1 dX0_deathsIn_93 (lv_at hl 6 rfl) ?_
        refine lv_aload C.1 C.2.1 dX0_deathsIn_95 (lv_at hl 0 rfl) ?_
        obtain ⟨r4310, hr4310, hE⟩ := it_b hE
        refine n_after [16, 17] C.2.2.2.2.2.1 C.2.2.2.2.2.2.2.1 hP hS (va_runV (As := []) (rest := [.int x5]) ⟨C.1, C.2.1, hml, C.2.2.1, C.2.2.2.1⟩ (metC_Pet_dies l G (fun i => ad (16 + i)) pl _ _ _ _   r4310 hr4310) (cwV (C := RX2) 0 C.2.2.2.1 (lw_V q1083 q1024 q1025 q82 q1026) rfl rfl rfl (by decide +kernel) ⟨Nat.le_of_ble_eq_true rfl, Nat.le_of_ble_eq_true rfl⟩) (n_preV C hP hS [16, 17] sub_xW_pW_16 (by decide) rfl (va_recv C.2.2.2.2.1 hP (ci := 11) (q0 := 16) rfl rfl)) rfl rfl hl.1 rfl (lv_room (Nat.le_of_ble_eq_true rfl)) dX0_deathsIn_97 ⟨Nat.le_refl _, Nat.le_refl _⟩) xW_av rfl rfl mg_xW_pW_16 (fun H locs hP hS => ?_)
        refine lv_iconst (v := (-1)) C.1 C.2.1 dX0_deathsIn_100 (by decide) ?_
        obtain ⟨u4312, hR, hE⟩ := it_b hE
        have hJ134u4312 : ∀ (H : Heap) (locs : List Loc) (ls : Array Slot), va_P G.1 vwCl (xW G.2 ad v_latestFault v_died v_leastWeight v_noticedBy v_noticed v_orderDied v_orderLeast v_imaged v_shelves v_refusals v_ran v_bodies v_tweight v_tfright v_tage v_tasked v_told v_bestRow u4312.2.1 u4312.2.2.1 u4312.2.2.2.1 u4312.2.2.2.2.1 u4312.2.2.2.2.2.1 u4312.2.2.2.2.2.2.1 u4312.2.2.2.2.2.2.2.1 u4312.2.2.2.2.2.2.2.2.1 u4312.2.2.2.2.2.2.2.2.2.1 u4312.2.2.2.2.2.2.2.2.2.2.1 u4312.2.2.2.2.2.2.2.2.2.2.2.1 u4312.2.2.2.2.2.2.2.2.2.2.2.2 r4309.1 r4309.2.1 r4309.2.2 r4305.2.2.2 v_many v_pets v_last v_seed v_weight v_fright v_age v_asked v_homes v_marks v_had v_allergic v_deaths) H → va_S (nA (xWV ad)) s.heap H locs → lv_has ls 8 [(0, .ref (ad 0)), (1, .ref (ad 19)), (2, .int 4), (3, .int x3), (4, .int x4), (6, .int x6)] → W p l e ({ frames := 8, cells := 0, slots := 0, locals := 187 } : Room) s m args below meth c H locs 0 0 Q (F0 m 134 ls [.int u4312.1, .int x5]) := by
          intro H locs ls hP hS hl
          refine lv_iadd C.1 C.2.1 dX0_deathsIn_134 ?_
          refine lv_istore (lv' := [(5, .int (x5 + u4312.1)), (0, .ref (ad 0)), (1, .ref (ad 19)), (2, .int 4), (3, .int x3), (4, .int x4), (6, .int x6)]) C.1 C.2.1 dX0_deathsIn_135 hl (by decide) rfl (fun ls hl => ?_)
          obtain rfl := Option.some.inj hE
          exact hJ137u4304 H locs ls hP hS (lv_sub hl [1, 2, 3, 4, 5, 0, 6] rfl)
        have hE := hR
        refine lv_icmp_ne (tgt := 117) C.1 C.2.1 dX0_deathsIn_101 (by decide) (fun c4311 => ?_) (fun c4311 => ?_)
        · have hE := it_f c4311 hE
          refine lv_iload_n C.1 C.2.1 dX0_deathsIn_117 rfl (lv_at hl 4 rfl) ?_
          refine lv_iconst (v := (-1)) C.1 C.2.1 dX0_deathsIn_118 (by decide) ?_
          refine lv_icmp_eq (tgt := 128) C.1 C.2.1 dX0_deathsIn_119 (by decide) (fun c4313 => ?_) (fun c4313 => ?_)
          · have hE := it_t c4313 hE
            refine lv_iload C.1 C.2.1 dX0_deathsIn_128 (lv_at hl 5 rfl) ?_
            refine lv_goto (tgt := 134) C.1 C.2.1 dX0_deathsIn_130 (by decide) ?_
            obtain rfl := Option.some.inj hE
            exact hJ134u4312 H locs ls hP hS (lv_sub hl [1, 2, 3, 4, 5, 7] rfl)
          · have hE := it_f c4313 hE
            refine lv_iload_n C.1 C.2.1 dX0_deathsIn_122 rfl (lv_at hl 4 rfl) ?_
            refine lv_iload C.1 C.2.1 dX0_deathsIn_123 (lv_at hl 7 rfl) ?_
            refine lv_icmp_ne (tgt := 133) C.1 C.2.1 dX0_deathsIn_125 (by decide) (fun c4314 => ?_) (fun c4314 => ?_)
            · have hE := it_f c4314 hE
              refine lv_iconst (v := 0) C.1 C.2.1 dX0_deathsIn_133 (by decide) ?_
              obtain rfl := Option.some.inj hE
              exact hJ134u4312 H locs ls hP hS (lv_sub hl [1, 2, 3, 4, 5, 7] rfl)
            · have hE := it_t c4314 hE
              refine lv_iload C.1 C.2.1 dX0_deathsIn_128 (lv_at hl 5 rfl) ?_
              refine lv_goto (tgt := 134) C.1 C.2.1 dX0_deathsIn_130 (by decide) ?_
              obtain rfl := Option.some.inj hE
              exact hJ134u4312 H locs ls hP hS (lv_sub hl [1, 2, 3, 4, 5, 7] rfl)
        · have hE := it_t c4311 hE
          refine lv_aload_n C.1 C.2.1 dX0_deathsIn_104 rfl (lv_at hl 1 rfl) ?_
          refine lv_aload C.1 C.2.1 dX0_deathsIn_105 (lv_at hl 0 rfl) ?_
          refine lv_iload_n C.1 C.2.1 dX0_deathsIn_107 rfl (lv_at hl 3 rfl) ?_
          refine lv_iconst (v := 1) C.1 C.2.1 dX0_deathsIn_108 (by decide) ?_
          refine lv_isub C.1 C.2.1 dX0_deathsIn_109 ?_
          rw [show (4 : Int32) - 1 = 3 from by decide]
          refine lv_iload_n C.1 C.2.1 dX0_deathsIn_110 rfl (lv_at hl 4 rfl) ?_
          obtain ⟨r4315, hr4315, hE⟩ := it_b hE
          refine n_afterS C.2.2.2.2.2.2.2.1 hS (va_runV (As := [.ref (ad 16), .int 3, .int x3]) (rest := [.int x5]) ⟨C.1, C.2.1, hml, C.2.2.1, C.2.2.2.1⟩ (metC_HW_deathsIn_16_3 l G ad pl hk hb _ _ _ _ _ _ _ _ _ _ _ _ _ _ _ _ _ _ _ _ _ _ _ _ _ _ _ _ _ _ _ _ _ _ _ _ _ _ _ _ _ _ _ _ _ _ _ hom x3  r4315 hr4315) (cwV (C := RX0) 3 C.2.2.2.1 (lw_V q1154 q1156 qs28 q80 q1157) rfl rfl rfl (by decide +kernel) ⟨Nat.le_of_ble_eq_true rfl, Nat.le_of_ble_eq_true rfl⟩) (n_preV0 C hP hS (va_recv C.2.2.2.2.1 hP (ci := 16) (q0 := 0) rfl rfl)) rfl rfl hl.1 rfl (lv_room (Nat.le_of_ble_eq_true rfl)) dX0_deathsIn_111 ⟨Nat.le_refl _, Nat.le_refl _⟩) (fun H locs hP hS => ?_)
          refine lv_goto (tgt := 134) C.1 C.2.1 dX0_deathsIn_114 (by decide) ?_
          obtain rfl := Option.some.inj hE
          exact hJ134u4312 H locs ls hP hS (lv_sub hl [1, 2, 3, 4, 5, 7] rfl)
set_option maxHeartbeats 4000000 in
theorem metC_HW_deathsIn_19_4 (l : Launch) (G : kG) (ad : Nat → Nat) (pl : va_W) (hk : Nat → Nat) (hb : Nat → Int32) (v_latestFault : Int32) (v_died : Int32) (v_leastWeight : Int32) (v_noticedBy : Int32) (v_noticed : Int32) (v_orderDied : Int32) (v_orderLeast : Int32) (v_imaged : Option Nat) (v_shelves : Nat → Option Nat) (v_refusals : Nat → Int32) (v_ran : Int32) (v_bodies : Nat → Int32) (v_tweight : Int32) (v_tfright : Int32) (v_tage : Int32) (v_tasked : Nat → Int32) (v_told : Nat → Int32) (v_bestRow : Nat → Int32) (v_weight_a1 : Int32) (v_fright_a1 : Int32) (v_age_a1 : Int32) (v_asked_a1 : Nat → Int32) (v_weight_a2 : Int32) (v_fright_a2 : Int32) (v_age_a2 : Int32) (v_asked_a2 : Nat → Int32) (v_weight_a3 : Int32) (v_fright_a3 : Int32) (v_age_a3 : Int32) (v_asked_a3 : Nat → Int32) (v_weight_a4 : Int32) (v_fright_a4 : Int32) (v_age_a4 : Int32) (v_asked_a4 : Nat → Int32) (v_many : Int32) (v_pets : Int32) (v_last : Int32) (v_seed : Int32) (v_weight : Int32) (v_fright : Int32) (v_age : Int32) (v_asked : Nat → Int32) (v_homes : Nat → Option Nat) (v_marks : Nat → Int32) (v_had : Nat → Int32) (v_allergic : Nat → Int32) (v_deaths : Nat → Int32) (hom : homOK v_homes v_many hk hb pl) (p3 : Int32) (res : Int32 × Int32 × Int32 × Int32 × (Nat → Int32) × Int32 × Int32 × Int32 × (Nat → Int32) × Int32 × Int32 × Int32 × (Nat → Int32) × Int32 × Int32 × Int32 × (Nat → Int32)) (hE : sC_HW_deathsIn_19_4 v_weight_a1 v_fright_a1 v_age_a1 v_asked_a1 v_weight_a2 v_fright_a2 v_age_a2 v_asked_a2 v_weight_a3 v_fright_a3 v_age_a3 v_asked_a3 v_weight_a4 v_fright_a4 v_age_a4 v_asked_a4 v_many v_weight v_fright v_age v_asked v_homes v_allergic hk hb p3 = some res) : Met l yX0_deathsIn (ws_ yX0_deathsIn cX0_deathsIn 8 (some .int)) ({ frames := 8, cells := 0, slots := 0, locals := 187 } : Room) (nPc G (xW G.2 ad v_latestFault v_died v_leastWeight v_noticedBy v_noticed v_orderDied v_orderLeast v_imaged v_shelves v_refusals v_ran v_bodies v_tweight v_tfright v_tage v_tasked v_told v_bestRow v_weight_a1 v_fright_a1 v_age_a1 v_asked_a1 v_weight_a2 v_fright_a2 v_age_a2 v_asked_a2 v_weight_a3 v_fright_a3 v_age_a3 v_asked_a3 v_weight_a4 v_fright_a4 v_age_a4 v_asked_a4 v_many v_pets v_last v_seed v_weight v_fright v_age v_asked v_homes v_marks v_had v_allergic v_deaths) pl (xWV ad) [.ref (ad 0), .ref (ad 19), .int 4, .int p3]) (nQc G (xW G.2 ad v_latestFault v_died v_leastWeight v_noticedBy v_noticed v_orderDied v_orderLeast v_imaged v_shelves v_refusals v_ran v_bodies v_tweight v_tfright v_tage v_tasked v_told v_bestRow res.2.1 res.2.2.1 res.2.2.2.1 res.2.2.2.2.1 res.2.2.2.2.2.1 res.2.2.2.2.2.2.1 res.2.2.2.2.2.2.2.1 res.2.2.2.2.2.2.2.2.1 res.2.2.2.2.2.2.2.2.2.1 res.2.2.2.2.2.2.2.2.2.2.1 res.2.2.2.2.2.2.2.2.2.2.2.1 res.2.2.2.2.2.2.2.2.2.2.2.2.1 res.2.2.2.2.2.2.2.2.2.2.2.2.2.1 res.2.2.2.2.2.2.2.2.2.2.2.2.2.2.1 res.2.2.2.2.2.2.2.2.2.2.2.2.2.2.2.1 res.2.2.2.2.2.2.2.2.2.2.2.2.2.2.2.2 v_many v_pets v_last v_seed v_weight v_fright v_age v_asked v_homes v_marks v_had v_allergic v_deaths) (xWV ad) (some (.int res.1))) 0 0 (nA (xWV ad)) := by
  refine n_ofW (own := RX0) (by decide) rfl (Nat.le_of_ble_eq_true rfl) ?_
  intro p e s m args below meth c ls C hml hP hS hl hr hlocks
  have hl : lv_has ls 8 [(0, .ref (ad 0)), (1, .ref (ad 19)), (2, .int 4), (3, .int p3)] := hl
  obtain ⟨Q, hQ⟩ : ∃ Q, Q = MQ below (nQc G (xW G.2 ad v_latestFault v_died v_leastWeight v_noticedBy v_noticed v_orderDied v_orderLeast v_imaged v_shelves v_refusals v_ran v_bodies v_tweight v_tfright v_tage v_tasked v_told v_bestRow res.2.1 res.2.2.1 res.2.2.2.1 res.2.2.2.2.1 res.2.2.2.2.2.1 res.2.2.2.2.2.2.1 res.2.2.2.2.2.2.2.1 res.2.2.2.2.2.2.2.2.1 res.2.2.2.2.2.2.2.2.2.1 res.2.2.2.2.2.2.2.2.2.2.1 res.2.2.2.2.2.2.2.2.2.2.2.1 res.2.2.2.2.2.2.2.2.2.2.2.2.1 res.2.2.2.2.2.2.2.2.2.2.2.2.2.1 res.2.2.2.2.2.2.2.2.2.2.2.2.2.2.1 res.2.2.2.2.2.2.2.2.2.2.2.2.2.2.2.1 res.2.2.2.2.2.2.2.2.2.2.2.2.2.2.2.2 v_many v_pets v_last v_seed v_weight v_fright v_age v_asked v_homes v_marks v_had v_allergic v_deaths) (xWV ad) (some (.int res.1))) args s 0 0 (nA (xWV ad)) := ⟨_, rfl⟩
  rw [← hQ]
  have hret : ∀ (pc : Nat) (ls : Array Slot) (H : Heap) (locs : List Loc), decode cX0_deathsIn pc = .ok (.ireturn, 1) → va_P G.1 vwCl (xW G.2 ad v_latestFault v_died v_leastWeight v_noticedBy v_noticed v_orderDied v_orderLeast v_imaged v_shelves v_refusals v_ran v_bodies v_tweight v_tfright v_tage v_tasked v_told v_bestRow res.2.1 res.2.2.1 res.2.2.2.1 res.2.2.2.2.1 res.2.2.2.2.2.1 res.2.2.2.2.2.2.1 res.2.2.2.2.2.2.2.1 res.2.2.2.2.2.2.2.2.1 res.2.2.2.2.2.2.2.2.2.1 res.2.2.2.2.2.2.2.2.2.2.1 res.2.2.2.2.2.2.2.2.2.2.2.1 res.2.2.2.2.2.2.2.2.2.2.2.2.1 res.2.2.2.2.2.2.2.2.2.2.2.2.2.1 res.2.2.2.2.2.2.2.2.2.2.2.2.2.2.1 res.2.2.2.2.2.2.2.2.2.2.2.2.2.2.2.1 res.2.2.2.2.2.2.2.2.2.2.2.2.2.2.2.2 v_many v_pets v_last v_seed v_weight v_fright v_age v_asked v_homes v_marks v_had v_allergic v_deaths) H → va_S (nA (xWV ad)) s.heap H locs → W p l e ({ frames := 8, cells := 0, slots := 0, locals := 187 } : Room) s m args below meth c H locs 0 0 Q (F0 m pc ls [(.int res.1)]) := by
    intro pc ls H locs hd hP hS
    rw [hQ]
    exact n_iret C hr hlocks hd hP hS
  clear hQ
  obtain ⟨H, hH⟩ : ∃ H, H = s.heap := ⟨_, rfl⟩
  obtain ⟨locs, hlo⟩ : ∃ locs : List Loc, locs = [] := ⟨_, rfl⟩
  have hP : va_P G.1 vwCl (xW G.2 ad v_latestFault v_died v_leastWeight v_noticedBy v_noticed v_orderDied v_orderLeast v_imaged v_shelves v_refusals v_ran v_bodies v_tweight v_tfright v_tage v_tasked v_told v_bestRow v_weight_a1 v_fright_a1 v_age_a1 v_asked_a1 v_weight_a2 v_fright_a2 v_age_a2 v_asked_a2 v_weight_a3 v_fright_a3 v_age_a3 v_asked_a3 v_weight_a4 v_fright_a4 v_age_a4 v_asked_a4 v_many v_pets v_last v_seed v_weight v_fright v_age v_asked v_homes v_marks v_had v_allergic v_deaths) H := by rw [hH]; exact hP
  have hS : va_S (nA (xWV ad)) s.heap H locs := by rw [hH, hlo]; exact hS
  suffices hZ : W p l e ({ frames := 8, cells := 0, slots := 0, locals := 187 } : Room) s m args below meth c H locs 0 0 Q (F0 m 0 ls []) by rw [hH, hlo] at hZ; exact hZ
  clear hH hlo
  unfold sC_HW_deathsIn_19_4 at hE
  refine lv_iload_n C.1 C.2.1 dX0_deathsIn_0 rfl (lv_at hl 2 rfl) ?_
  refine lv_if_ne (tgt := 6) C.1 C.2.1 dX0_deathsIn_1 (by decide) (fun c1 => ?_) (fun c1 => absurd c1 (by decide))
  refine lv_iconst (v := 1) C.1 C.2.1 dX0_deathsIn_6 (by decide) ?_
  refine lv_istore (lv' := [(4, .int 1), (0, .ref (ad 0)), (1, .ref (ad 19)), (2, .int 4), (3, .int p3)]) C.1 C.2.1 dX0_deathsIn_7 hl (by decide) rfl (fun ls hl => ?_)
  refine lv_iconst (v := 1) C.1 C.2.1 dX0_deathsIn_9 (by decide) ?_
  refine lv_istore (lv' := [(5, .int 1), (4, .int 1), (0, .ref (ad 0)), (1, .ref (ad 19)), (2, .int 4), (3, .int p3)]) C.1 C.2.1 dX0_deathsIn_10 hl (by decide) rfl (fun ls hl => ?_)
  obtain ⟨u2, hu2, hE⟩ := it_b hE
  refine wC_HW_deathsIn_19_4_h12 C hml  hom p3 u2 2000 1 1 H locs ls hu2 hP hS (lv_sub hl [2, 3, 4, 5, 1, 0] rfl) (fun H locs ls hP hS hl => ?_)
  refine lv_iconst (v := 0) C.1 C.2.1 dX0_deathsIn_36 (by decide) ?_
  refine lv_istore (lv' := [(5, .int 0), (0, .ref (ad 0)), (1, .ref (ad 19)), (2, .int 4), (3, .int p3), (4, .int u2)]) C.1 C.2.1 dX0_deathsIn_37 hl (by decide) rfl (fun ls hl => ?_)
  refine lv_iconst (v := 0) C.1 C.2.1 dX0_deathsIn_39 (by decide) ?_
  refine lv_istore (lv' := [(6, .int 0), (5, .int 0), (0, .ref (ad 0)), (1, .ref (ad 19)), (2, .int 4), (3, .int p3), (4, .int u2)]) C.1 C.2.1 dX0_deathsIn_40 hl (by decide) rfl (fun ls hl => ?_)
  obtain ⟨u3, hu3, hE⟩ := it_b hE
  refine wC_HW_deathsIn_19_4_h42 C hml  hom p3 u2 u3 2000 0 0 v_weight_a1 v_fright_a1 v_age_a1 v_asked_a1 v_weight_a2 v_fright_a2 v_age_a2 v_asked_a2 v_weight_a3 v_fright_a3 v_age_a3 v_asked_a3 v_weight_a4 v_fright_a4 v_age_a4 v_asked_a4 H locs ls hu3 hP hS (lv_sub hl [2, 3, 4, 5, 6, 1, 0] rfl) (fun H locs ls hP hS hl => ?_)
  refine lv_iload C.1 C.2.1 dX0_deathsIn_143 (lv_at hl 0 rfl) ?_
  obtain rfl := Option.some.inj hE
  exact hret _ _ _ _ dX0_deathsIn_145 hP hS
