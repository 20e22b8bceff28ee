/-! the law: decode rows -/
set_option maxRecDepth 100000
theorem dL_533 : decode code 533 = .ok (.iadd, 1) := by decide +kernel
theorem dL_534 : decode code 534 = .ok (.iaload, 1) := by decide +kernel
theorem dL_535 : decode code 535 = .ok (.invokevirtual 50, 3) := by decide +kernel
theorem dL_538 : decode code 538 = .ok (.if_icmp .eq 1064, 3) := by decide +kernel
theorem dL_541 : decode code 541 = .ok (.iconst 0, 1) := by decide +kernel
theorem dL_542 : decode code 542 = .ok (.ireturn, 1) := by decide +kernel
theorem dL_543 : decode code 543 = .ok (.aload_n 1, 1) := by decide +kernel
theorem dL_544 : decode code 544 = .ok (.aload_n 0, 1) := by decide +kernel
theorem dL_545 : decode code 545 = .ok (.iload_n 3, 1) := by decide +kernel
theorem dL_546 : decode code 546 = .ok (.iconst 1, 1) := by decide +kernel
theorem dL_547 : decode code 547 = .ok (.iadd, 1) := by decide +kernel
theorem dL_548 : decode code 548 = .ok (.iaload, 1) := by decide +kernel
theorem dL_549 : decode code 549 = .ok (.aload_n 0, 1) := by decide +kernel
theorem dL_550 : decode code 550 = .ok (.iload_n 3, 1) := by decide +kernel
theorem dL_551 : decode code 551 = .ok (.iconst 2, 1) := by decide +kernel
theorem dL_552 : decode code 552 = .ok (.iadd, 1) := by decide +kernel
theorem dL_553 : decode code 553 = .ok (.iaload, 1) := by decide +kernel
theorem dL_554 : decode code 554 = .ok (.invokevirtual 51, 3) := by decide +kernel
theorem dL_557 : decode code 557 = .ok (.aload_n 2, 1) := by decide +kernel
theorem dL_558 : decode code 558 = .ok (.aload_n 0, 1) := by decide +kernel
theorem dL_559 : decode code 559 = .ok (.iload_n 3, 1) := by decide +kernel
theorem dL_560 : decode code 560 = .ok (.iconst 1, 1) := by decide +kernel
theorem dL_561 : decode code 561 = .ok (.iadd, 1) := by decide +kernel
theorem dL_562 : decode code 562 = .ok (.iaload, 1) := by decide +kernel
theorem dL_563 : decode code 563 = .ok (.aload_n 0, 1) := by decide +kernel
theorem dL_564 : decode code 564 = .ok (.iload_n 3, 1) := by decide +kernel
theorem dL_565 : decode code 565 = .ok (.iconst 2, 1) := by decide +kernel
theorem dL_566 : decode code 566 = .ok (.iadd, 1) := by decide +kernel
theorem dL_567 : decode code 567 = .ok (.iaload, 1) := by decide +kernel
theorem dL_568 : decode code 568 = .ok (.invokevirtual 54, 3) := by decide +kernel
theorem dL_571 : decode code 571 = .ok (.if_icmp .eq 1031, 3) := by decide +kernel
theorem dL_574 : decode code 574 = .ok (.iconst 0, 1) := by decide +kernel
theorem dL_575 : decode code 575 = .ok (.ireturn, 1) := by decide +kernel
theorem dL_576 : decode code 576 = .ok (.aload_n 1, 1) := by decide +kernel
theorem dL_577 : decode code 577 = .ok (.aload_n 0, 1) := by decide +kernel
theorem dL_578 : decode code 578 = .ok (.iload_n 3, 1) := by decide +kernel
theorem dL_579 : decode code 579 = .ok (.iconst 1, 1) := by decide +kernel
theorem dL_580 : decode code 580 = .ok (.iadd, 1) := by decide +kernel
theorem dL_581 : decode code 581 = .ok (.iaload, 1) := by decide +kernel
theorem dL_582 : decode code 582 = .ok (.aload_n 0, 1) := by decide +kernel
theorem dL_583 : decode code 583 = .ok (.iload_n 3, 1) := by decide +kernel
theorem dL_584 : decode code 584 = .ok (.iconst 2, 1) := by decide +kernel
theorem dL_585 : decode code 585 = .ok (.iadd, 1) := by decide +kernel
theorem dL_586 : decode code 586 = .ok (.iaload, 1) := by decide +kernel
theorem dL_587 : decode code 587 = .ok (.invokevirtual 55, 3) := by decide +kernel
theorem dL_590 : decode code 590 = .ok (.aload_n 2, 1) := by decide +kernel
theorem dL_591 : decode code 591 = .ok (.aload_n 0, 1) := by decide +kernel
theorem dL_592 : decode code 592 = .ok (.iload_n 3, 1) := by decide +kernel
theorem dL_593 : decode code 593 = .ok (.iconst 1, 1) := by decide +kernel
theorem dL_594 : decode code 594 = .ok (.iadd, 1) := by decide +kernel
theorem dL_595 : decode code 595 = .ok (.iaload, 1) := by decide +kernel
theorem dL_596 : decode code 596 = .ok (.aload_n 0, 1) := by decide +kernel
theorem dL_597 : decode code 597 = .ok (.iload_n 3, 1) := by decide +kernel
theorem dL_598 : decode code 598 = .ok (.iconst 2, 1) := by decide +kernel
theorem dL_599 : decode code 599 = .ok (.iadd, 1) := by decide +kernel
theorem dL_600 : decode code 600 = .ok (.iaload, 1) := by decide +kernel
theorem dL_601 : decode code 601 = .ok (.invokevirtual 58, 3) := by decide +kernel
theorem dL_604 : decode code 604 = .ok (.if_icmp .eq 998, 3) := by decide +kernel
theorem dL_607 : decode code 607 = .ok (.iconst 0, 1) := by decide +kernel
theorem dL_608 : decode code 608 = .ok (.ireturn, 1) := by decide +kernel
theorem dL_609 : decode code 609 = .ok (.aload_n 1, 1) := by decide +kernel
theorem dL_610 : decode code 610 = .ok (.aload_n 0, 1) := by decide +kernel
theorem dL_611 : decode code 611 = .ok (.iload_n 3, 1) := by decide +kernel
theorem dL_612 : decode code 612 = .ok (.iconst 1, 1) := by decide +kernel
theorem dL_613 : decode code 613 = .ok (.iadd, 1) := by decide +kernel
theorem dL_614 : decode code 614 = .ok (.iaload, 1) := by decide +kernel
theorem dL_615 : decode code 615 = .ok (.invokevirtual 59, 3) := by decide +kernel
theorem dL_618 : decode code 618 = .ok (.aload_n 2, 1) := by decide +kernel
theorem dL_619 : decode code 619 = .ok (.aload_n 0, 1) := by decide +kernel
theorem dL_620 : decode code 620 = .ok (.iload_n 3, 1) := by decide +kernel
theorem dL_621 : decode code 621 = .ok (.iconst 1, 1) := by decide +kernel
theorem dL_622 : decode code 622 = .ok (.iadd, 1) := by decide +kernel
theorem dL_623 : decode code 623 = .ok (.iaload, 1) := by decide +kernel
theorem dL_624 : decode code 624 = .ok (.invokevirtual 63, 3) := by decide +kernel
theorem dL_627 : decode code 627 = .ok (.if_icmp .eq 975, 3) := by decide +kernel
theorem dL_630 : decode code 630 = .ok (.iconst 0, 1) := by decide +kernel
theorem dL_631 : decode code 631 = .ok (.ireturn, 1) := by decide +kernel
theorem dL_632 : decode code 632 = .ok (.aload_n 1, 1) := by decide +kernel
theorem dL_633 : decode code 633 = .ok (.aload_n 0, 1) := by decide +kernel
theorem dL_634 : decode code 634 = .ok (.iload_n 3, 1) := by decide +kernel
theorem dL_635 : decode code 635 = .ok (.iconst 1, 1) := by decide +kernel
theorem dL_636 : decode code 636 = .ok (.iadd, 1) := by decide +kernel
theorem dL_637 : decode code 637 = .ok (.iaload, 1) := by decide +kernel
theorem dL_638 : decode code 638 = .ok (.invokevirtual 64, 3) := by decide +kernel
theorem dL_641 : decode code 641 = .ok (.aload_n 2, 1) := by decide +kernel
theorem dL_642 : decode code 642 = .ok (.aload_n 0, 1) := by decide +kernel
theorem dL_643 : decode code 643 = .ok (.iload_n 3, 1) := by decide +kernel
theorem dL_644 : decode code 644 = .ok (.iconst 1, 1) := by decide +kernel
theorem dL_645 : decode code 645 = .ok (.iadd, 1) := by decide +kernel
theorem dL_646 : decode code 646 = .ok (.iaload, 1) := by decide +kernel
theorem dL_647 : decode code 647 = .ok (.invokevirtual 67, 3) := by decide +kernel
theorem dL_650 : decode code 650 = .ok (.if_icmp .eq 952, 3) := by decide +kernel
theorem dL_653 : decode code 653 = .ok (.iconst 0, 1) := by decide +kernel
theorem dL_654 : decode code 654 = .ok (.ireturn, 1) := by decide +kernel
theorem dL_655 : decode code 655 = .ok (.aload_n 1, 1) := by decide +kernel
theorem dL_656 : decode code 656 = .ok (.aload_n 0, 1) := by decide +kernel
theorem dL_657 : decode code 657 = .ok (.iload_n 3, 1) := by decide +kernel
theorem dL_658 : decode code 658 = .ok (.iconst 1, 1) := by decide +kernel
theorem dL_659 : decode code 659 = .ok (.iadd, 1) := by decide +kernel
theorem dL_660 : decode code 660 = .ok (.iaload, 1) := by decide +kernel
theorem dL_661 : decode code 661 = .ok (.invokevirtual 68, 3) := by decide +kernel
theorem dL_664 : decode code 664 = .ok (.aload_n 2, 1) := by decide +kernel
theorem dL_665 : decode code 665 = .ok (.aload_n 0, 1) := by decide +kernel
theorem dL_666 : decode code 666 = .ok (.iload_n 3, 1) := by decide +kernel
theorem dL_667 : decode code 667 = .ok (.iconst 1, 1) := by decide +kernel
theorem dL_668 : decode code 668 = .ok (.iadd, 1) := by decide +kernel
theorem dL_669 : decode code 669 = .ok (.iaload, 1) := by decide +kernel
theorem dL_670 : decode code 670 = .ok (.invokevirtual 71, 3) := by decide +kernel
theorem dL_673 : decode code 673 = .ok (.if_icmp .eq 929, 3) := by decide +kernel
theorem dL_676 : decode code 676 = .ok (.iconst 0, 1) := by decide +kernel
theorem dL_677 : decode code 677 = .ok (.ireturn, 1) := by decide +kernel
theorem dL_678 : decode code 678 = .ok (.aload_n 1, 1) := by decide +kernel
theorem dL_679 : decode code 679 = .ok (.aload_n 0, 1) := by decide +kernel
theorem dL_680 : decode code 680 = .ok (.iload_n 3, 1) := by decide +kernel
theorem dL_681 : decode code 681 = .ok (.iconst 1, 1) := by decide +kernel
theorem dL_682 : decode code 682 = .ok (.iadd, 1) := by decide +kernel
theorem dL_683 : decode code 683 = .ok (.iaload, 1) := by decide +kernel
theorem dL_684 : decode code 684 = .ok (.aload_n 0, 1) := by decide +kernel
theorem dL_685 : decode code 685 = .ok (.iload_n 3, 1) := by decide +kernel
theorem dL_686 : decode code 686 = .ok (.iconst 2, 1) := by decide +kernel
theorem dL_687 : decode code 687 = .ok (.iadd, 1) := by decide +kernel
theorem dL_688 : decode code 688 = .ok (.iaload, 1) := by decide +kernel
theorem dL_689 : decode code 689 = .ok (.aload_n 0, 1) := by decide +kernel
theorem dL_690 : decode code 690 = .ok (.iload_n 3, 1) := by decide +kernel
theorem dL_691 : decode code 691 = .ok (.iconst 3, 1) := by decide +kernel
theorem dL_692 : decode code 692 = .ok (.iadd, 1) := by decide +kernel
theorem dL_693 : decode code 693 = .ok (.iaload, 1) := by decide +kernel
theorem dL_694 : decode code 694 = .ok (.invokevirtual 72, 3) := by decide +kernel
theorem dL_697 : decode code 697 = .ok (.aload_n 2, 1) := by decide +kernel
theorem dL_698 : decode code 698 = .ok (.aload_n 0, 1) := by decide +kernel
theorem dL_699 : decode code 699 = .ok (.iload_n 3, 1) := by decide +kernel
theorem dL_700 : decode code 700 = .ok (.iconst 1, 1) := by decide +kernel
theorem dL_701 : decode code 701 = .ok (.iadd, 1) := by decide +kernel
theorem dL_702 : decode code 702 = .ok (.iaload, 1) := by decide +kernel
theorem dL_703 : decode code 703 = .ok (.aload_n 0, 1) := by decide +kernel
theorem dL_704 : decode code 704 = .ok (.iload_n 3, 1) := by decide +kernel
theorem dL_705 : decode code 705 = .ok (.iconst 2, 1) := by decide +kernel
theorem dL_706 : decode code 706 = .ok (.iadd, 1) := by decide +kernel
theorem dL_707 : decode code 707 = .ok (.iaload, 1) := by decide +kernel
theorem dL_708 : decode code 708 = .ok (.aload_n 0, 1) := by decide +kernel
theorem dL_709 : decode code 709 = .ok (.iload_n 3, 1) := by decide +kernel
theorem dL_710 : decode code 710 = .ok (.iconst 3, 1) := by decide +kernel
theorem dL_711 : decode code 711 = .ok (.iadd, 1) := by decide +kernel
theorem dL_712 : decode code 712 = .ok (.iaload, 1) := by decide +kernel
theorem dL_713 : decode code 713 = .ok (.invokevirtual 75, 3) := by decide +kernel
theorem dL_716 : decode code 716 = .ok (.if_icmp .eq 886, 3) := by decide +kernel
theorem dL_719 : decode code 719 = .ok (.iconst 0, 1) := by decide +kernel
theorem dL_720 : decode code 720 = .ok (.ireturn, 1) := by decide +kernel
theorem dL_721 : decode code 721 = .ok (.aload_n 1, 1) := by decide +kernel
theorem dL_722 : decode code 722 = .ok (.aload_n 0, 1) := by decide +kernel
theorem dL_723 : decode code 723 = .ok (.iload_n 3, 1) := by decide +kernel
theorem dL_724 : decode code 724 = .ok (.iconst 1, 1) := by decide +kernel
theorem dL_725 : decode code 725 = .ok (.iadd, 1) := by decide +kernel
theorem dL_726 : decode code 726 = .ok (.iaload, 1) := by decide +kernel
theorem dL_727 : decode code 727 = .ok (.i2l, 1) := by decide +kernel
theorem dL_728 : decode code 728 = .ok (.bipush 32, 2) := by decide +kernel
theorem dL_730 : decode code 730 = .ok (.lshl, 1) := by decide +kernel
theorem dL_731 : decode code 731 = .ok (.aload_n 0, 1) := by decide +kernel
theorem dL_732 : decode code 732 = .ok (.iload_n 3, 1) := by decide +kernel
theorem dL_733 : decode code 733 = .ok (.iconst 2, 1) := by decide +kernel
theorem dL_734 : decode code 734 = .ok (.iadd, 1) := by decide +kernel
theorem dL_735 : decode code 735 = .ok (.iaload, 1) := by decide +kernel
theorem dL_736 : decode code 736 = .ok (.i2l, 1) := by decide +kernel
theorem dL_737 : decode code 737 = .ok (.ldc2_w 76, 3) := by decide +kernel
theorem dL_740 : decode code 740 = .ok (.land, 1) := by decide +kernel
theorem dL_741 : decode code 741 = .ok (.lor, 1) := by decide +kernel
theorem dL_742 : decode code 742 = .ok (.aload_n 0, 1) := by decide +kernel
theorem dL_743 : decode code 743 = .ok (.iload_n 3, 1) := by decide +kernel
theorem dL_744 : decode code 744 = .ok (.iconst 3, 1) := by decide +kernel
theorem dL_745 : decode code 745 = .ok (.iadd, 1) := by decide +kernel
theorem dL_746 : decode code 746 = .ok (.iaload, 1) := by decide +kernel
theorem dL_747 : decode code 747 = .ok (.invokevirtual 78, 3) := by decide +kernel
theorem dL_750 : decode code 750 = .ok (.aload_n 2, 1) := by decide +kernel
theorem dL_751 : decode code 751 = .ok (.aload_n 0, 1) := by decide +kernel
theorem dL_752 : decode code 752 = .ok (.iload_n 3, 1) := by decide +kernel
theorem dL_753 : decode code 753 = .ok (.iconst 1, 1) := by decide +kernel
theorem dL_754 : decode code 754 = .ok (.iadd, 1) := by decide +kernel
theorem dL_755 : decode code 755 = .ok (.iaload, 1) := by decide +kernel
theorem dL_756 : decode code 756 = .ok (.i2l, 1) := by decide +kernel
theorem dL_757 : decode code 757 = .ok (.bipush 32, 2) := by decide +kernel
theorem dL_759 : decode code 759 = .ok (.lshl, 1) := by decide +kernel
theorem dL_760 : decode code 760 = .ok (.aload_n 0, 1) := by decide +kernel
theorem dL_761 : decode code 761 = .ok (.iload_n 3, 1) := by decide +kernel
theorem dL_762 : decode code 762 = .ok (.iconst 2, 1) := by decide +kernel
theorem dL_763 : decode code 763 = .ok (.iadd, 1) := by decide +kernel
theorem dL_764 : decode code 764 = .ok (.iaload, 1) := by decide +kernel
theorem dL_765 : decode code 765 = .ok (.i2l, 1) := by decide +kernel
theorem dL_766 : decode code 766 = .ok (.ldc2_w 76, 3) := by decide +kernel
theorem dL_769 : decode code 769 = .ok (.land, 1) := by decide +kernel
theorem dL_770 : decode code 770 = .ok (.lor, 1) := by decide +kernel
theorem dL_771 : decode code 771 = .ok (.aload_n 0, 1) := by decide +kernel
theorem dL_772 : decode code 772 = .ok (.iload_n 3, 1) := by decide +kernel
theorem dL_773 : decode code 773 = .ok (.iconst 3, 1) := by decide +kernel
theorem dL_774 : decode code 774 = .ok (.iadd, 1) := by decide +kernel
theorem dL_775 : decode code 775 = .ok (.iaload, 1) := by decide +kernel
theorem dL_776 : decode code 776 = .ok (.invokevirtual 82, 3) := by decide +kernel
theorem dL_779 : decode code 779 = .ok (.if_icmp .eq 823, 3) := by decide +kernel
theorem dL_782 : decode code 782 = .ok (.iconst 0, 1) := by decide +kernel
theorem dL_783 : decode code 783 = .ok (.ireturn, 1) := by decide +kernel
theorem dL_784 : decode code 784 = .ok (.aload_n 1, 1) := by decide +kernel
theorem dL_785 : decode code 785 = .ok (.aload_n 0, 1) := by decide +kernel
theorem dL_786 : decode code 786 = .ok (.iload_n 3, 1) := by decide +kernel
theorem dL_787 : decode code 787 = .ok (.iconst 1, 1) := by decide +kernel
theorem dL_788 : decode code 788 = .ok (.iadd, 1) := by decide +kernel
theorem dL_789 : decode code 789 = .ok (.iaload, 1) := by decide +kernel
theorem dL_790 : decode code 790 = .ok (.invokevirtual 83, 3) := by decide +kernel
theorem dL_793 : decode code 793 = .ok (.aload_n 2, 1) := by decide +kernel
theorem dL_794 : decode code 794 = .ok (.aload_n 0, 1) := by decide +kernel
theorem dL_795 : decode code 795 = .ok (.iload_n 3, 1) := by decide +kernel
theorem dL_796 : decode code 796 = .ok (.iconst 1, 1) := by decide +kernel
theorem dL_797 : decode code 797 = .ok (.iadd, 1) := by decide +kernel
theorem dL_798 : decode code 798 = .ok (.iaload, 1) := by decide +kernel
theorem dL_799 : decode code 799 = .ok (.invokevirtual 86, 3) := by decide +kernel
theorem dL_802 : decode code 802 = .ok (.if_icmp .eq 800, 3) := by decide +kernel
theorem dL_805 : decode code 805 = .ok (.iconst 0, 1) := by decide +kernel
theorem dL_806 : decode code 806 = .ok (.ireturn, 1) := by decide +kernel
theorem dL_807 : decode code 807 = .ok (.aload_n 1, 1) := by decide +kernel
theorem dL_808 : decode code 808 = .ok (.aload_n 0, 1) := by decide +kernel
theorem dL_809 : decode code 809 = .ok (.iload_n 3, 1) := by decide +kernel
theorem dL_810 : decode code 810 = .ok (.iconst 1, 1) := by decide +kernel
theorem dL_811 : decode code 811 = .ok (.iadd, 1) := by decide +kernel
theorem dL_812 : decode code 812 = .ok (.iaload, 1) := by decide +kernel
theorem dL_813 : decode code 813 = .ok (.aload_n 0, 1) := by decide +kernel
theorem dL_814 : decode code 814 = .ok (.iload_n 3, 1) := by decide +kernel
theorem dL_815 : decode code 815 = .ok (.iconst 2, 1) := by decide +kernel
theorem dL_816 : decode code 816 = .ok (.iadd, 1) := by decide +kernel
theorem dL_817 : decode code 817 = .ok (.iaload, 1) := by decide +kernel
theorem dL_818 : decode code 818 = .ok (.aload_n 0, 1) := by decide +kernel
theorem dL_819 : decode code 819 = .ok (.iload_n 3, 1) := by decide +kernel
theorem dL_820 : decode code 820 = .ok (.iconst 3, 1) := by decide +kernel
theorem dL_821 : decode code 821 = .ok (.iadd, 1) := by decide +kernel
theorem dL_822 : decode code 822 = .ok (.iaload, 1) := by decide +kernel
theorem dL_823 : decode code 823 = .ok (.aload_n 0, 1) := by decide +kernel
theorem dL_824 : decode code 824 = .ok (.iload_n 3, 1) := by decide +kernel
theorem dL_825 : decode code 825 = .ok (.iconst 4, 1) := by decide +kernel
theorem dL_826 : decode code 826 = .ok (.iadd, 1) := by decide +kernel
theorem dL_827 : decode code 827 = .ok (.iaload, 1) := by decide +kernel
theorem dL_828 : decode code 828 = .ok (.invokevirtual 87, 3) := by decide +kernel
theorem dL_831 : decode code 831 = .ok (.aload_n 2, 1) := by decide +kernel
theorem dL_832 : decode code 832 = .ok (.aload_n 0, 1) := by decide +kernel
theorem dL_833 : decode code 833 = .ok (.iload_n 3, 1) := by decide +kernel
theorem dL_834 : decode code 834 = .ok (.iconst 1, 1) := by decide +kernel
theorem dL_835 : decode code 835 = .ok (.iadd, 1) := by decide +kernel
theorem dL_836 : decode code 836 = .ok (.iaload, 1) := by decide +kernel
theorem dL_837 : decode code 837 = .ok (.aload_n 0, 1) := by decide +kernel
theorem dL_838 : decode code 838 = .ok (.iload_n 3, 1) := by decide +kernel
theorem dL_839 : decode code 839 = .ok (.iconst 2, 1) := by decide +kernel
theorem dL_840 : decode code 840 = .ok (.iadd, 1) := by decide +kernel
theorem dL_841 : decode code 841 = .ok (.iaload, 1) := by decide +kernel
theorem dL_842 : decode code 842 = .ok (.aload_n 0, 1) := by decide +kernel
theorem dL_843 : decode code 843 = .ok (.iload_n 3, 1) := by decide +kernel
theorem dL_844 : decode code 844 = .ok (.iconst 3, 1) := by decide +kernel
theorem dL_845 : decode code 845 = .ok (.iadd, 1) := by decide +kernel
theorem dL_846 : decode code 846 = .ok (.iaload, 1) := by decide +kernel
theorem dL_847 : decode code 847 = .ok (.aload_n 0, 1) := by decide +kernel
theorem dL_848 : decode code 848 = .ok (.iload_n 3, 1) := by decide +kernel
theorem dL_849 : decode code 849 = .ok (.iconst 4, 1) := by decide +kernel
theorem dL_850 : decode code 850 = .ok (.iadd, 1) := by decide +kernel
theorem dL_851 : decode code 851 = .ok (.iaload, 1) := by decide +kernel
theorem dL_852 : decode code 852 = .ok (.invokevirtual 91, 3) := by decide +kernel
theorem dL_855 : decode code 855 = .ok (.if_icmp .eq 747, 3) := by decide +kernel
theorem dL_858 : decode code 858 = .ok (.iconst 0, 1) := by decide +kernel
theorem dL_859 : decode code 859 = .ok (.ireturn, 1) := by decide +kernel
theorem dL_860 : decode code 860 = .ok (.aload_n 1, 1) := by decide +kernel
theorem dL_861 : decode code 861 = .ok (.aload_n 0, 1) := by decide +kernel
theorem dL_862 : decode code 862 = .ok (.iload_n 3, 1) := by decide +kernel
theorem dL_863 : decode code 863 = .ok (.iconst 1, 1) := by decide +kernel
theorem dL_864 : decode code 864 = .ok (.iadd, 1) := by decide +kernel
theorem dL_865 : decode code 865 = .ok (.iaload, 1) := by decide +kernel
theorem dL_866 : decode code 866 = .ok (.aload_n 0, 1) := by decide +kernel
theorem dL_867 : decode code 867 = .ok (.iload_n 3, 1) := by decide +kernel
theorem dL_868 : decode code 868 = .ok (.iconst 2, 1) := by decide +kernel
theorem dL_869 : decode code 869 = .ok (.iadd, 1) := by decide +kernel
theorem dL_870 : decode code 870 = .ok (.iaload, 1) := by decide +kernel
theorem dL_871 : decode code 871 = .ok (.invokevirtual 92, 3) := by decide +kernel
theorem dL_874 : decode code 874 = .ok (.aload_n 2, 1) := by decide +kernel
theorem dL_875 : decode code 875 = .ok (.aload_n 0, 1) := by decide +kernel
theorem dL_876 : decode code 876 = .ok (.iload_n 3, 1) := by decide +kernel
theorem dL_877 : decode code 877 = .ok (.iconst 1, 1) := by decide +kernel
theorem dL_878 : decode code 878 = .ok (.iadd, 1) := by decide +kernel
theorem dL_879 : decode code 879 = .ok (.iaload, 1) := by decide +kernel
theorem dL_880 : decode code 880 = .ok (.aload_n 0, 1) := by decide +kernel
theorem dL_881 : decode code 881 = .ok (.iload_n 3, 1) := by decide +kernel
theorem dL_882 : decode code 882 = .ok (.iconst 2, 1) := by decide +kernel
theorem dL_883 : decode code 883 = .ok (.iadd, 1) := by decide +kernel
theorem dL_884 : decode code 884 = .ok (.iaload, 1) := by decide +kernel
theorem dL_885 : decode code 885 = .ok (.invokevirtual 95, 3) := by decide +kernel
theorem dL_888 : decode code 888 = .ok (.if_icmp .eq 714, 3) := by decide +kernel
theorem dL_891 : decode code 891 = .ok (.iconst 0, 1) := by decide +kernel
